/-! ENTRIES OF A TREE MAP IN A POOL (printed by tools/mkrowst.py) -/
set_option maxRecDepth 100000
abbrev trE (ke : Nat → Nat) (vl lf rt pa : Nat → Option Nat) (co : Nat → Bool) : Nat → va_E := fun a => .inr (14, [.ref (ke a), va_rf (vl a), va_rf (lf a), va_rf (rt a), va_rf (pa a), .int (zB (co a))])
theorem te_mem {X : va_W} {L : List Nat} {E : Nat → va_E} {x : Nat} (h : x ∈ L) : (x, E x) ∈ X ++ va_pl L E := List.mem_append_right _ (List.mem_map.mpr ⟨x, h, rfl⟩)
theorem P_pool {D : va_G} {X Y : va_W} {H : Heap} (h : va_P D vwCl (X ++ Y) H) : va_P D vwCl Y H := by
  rw [P_iff] at h ⊢
  exact fun q hq => h q (List.mem_append_right _ hq)
section ZRT
variable {p : Program} {l : Launch} {e : Env} {R : Room} {s : State} {m : MethodId} {args : Array Value} {below : List Frame} {meth : Method} {c : Code} {H : Heap} {locs : List Loc} {cells slots : Nat} {Q : State → Prop}
variable {cc : ByteArray} {nL : Nat} {own : String} {D : va_G} {dA : Nat → ClassId} {pc : Nat} {ls : Array Slot} {rest st0 : List Value} {A : Nat → Prop} {ws X : va_W} {H0 : Heap} {x : Nat} {L : List Nat} {ke : Nat → Nat} {vl lf rt pa : Nat → Option Nat} {co : Nat → Bool} {index : Nat}
variable {y : MethodName} {bytes : ByteArray} {maxL : Nat} {ret : Option FieldType} {b n : Nat} {As av : List Value} {S : Type} {v : S → Option Value} {post : S → Prop} {w1 : S → va_W} {rm : Room} {B : Nat} {en : Nat → Nat → Nat} {fz f9 : zFt}
theorem z_eke (C : zC p s m args c cc nL own D dA) (hP : va_P D vwCl (X ++ va_pl L (trE ke vl lf rt pa co)) H) (hm : x ∈ L) (hw : Cond.fieldLink own index (TJ18 0).1 (TJ18 0).2.1 (TJ18 0).2.2.1 ∈ lw_all) (hdg : decode cc pc = .ok (.getfield index, 3)) (kk : W p l e R s m args below meth c H locs cells slots Q (F0 m (pc + 3) ls (.ref (ke x) :: rest))) : W p l e R s m args below meth c H locs cells slots Q (F0 m pc ls (.ref x :: rest)) :=
  z_getM C hP (te_mem hm) rfl in_J18 0 (by decide) hw rfl hdg kk
theorem z_evl (C : zC p s m args c cc nL own D dA) (hP : va_P D vwCl (X ++ va_pl L (trE ke vl lf rt pa co)) H) (hm : x ∈ L) (hw : Cond.fieldLink own index (TJ18 1).1 (TJ18 1).2.1 (TJ18 1).2.2.1 ∈ lw_all) (hdg : decode cc pc = .ok (.getfield index, 3)) (kk : W p l e R s m args below meth c H locs cells slots Q (F0 m (pc + 3) ls (va_rf (vl x) :: rest))) : W p l e R s m args below meth c H locs cells slots Q (F0 m pc ls (.ref x :: rest)) :=
  z_getM C hP (te_mem hm) rfl in_J18 1 (by decide) hw rfl hdg kk
theorem z_elf (C : zC p s m args c cc nL own D dA) (hP : va_P D vwCl (X ++ va_pl L (trE ke vl lf rt pa co)) H) (hm : x ∈ L) (hw : Cond.fieldLink own index (TJ18 2).1 (TJ18 2).2.1 (TJ18 2).2.2.1 ∈ lw_all) (hdg : decode cc pc = .ok (.getfield index, 3)) (kk : W p l e R s m args below meth c H locs cells slots Q (F0 m (pc + 3) ls (va_rf (lf x) :: rest))) : W p l e R s m args below meth c H locs cells slots Q (F0 m pc ls (.ref x :: rest)) :=
  z_getM C hP (te_mem hm) rfl in_J18 2 (by decide) hw rfl hdg kk
theorem z_ert (C : zC p s m args c cc nL own D dA) (hP : va_P D vwCl (X ++ va_pl L (trE ke vl lf rt pa co)) H) (hm : x ∈ L) (hw : Cond.fieldLink own index (TJ18 3).1 (TJ18 3).2.1 (TJ18 3).2.2.1 ∈ lw_all) (hdg : decode cc pc = .ok (.getfield index, 3)) (kk : W p l e R s m args below meth c H locs cells slots Q (F0 m (pc + 3) ls (va_rf (rt x) :: rest))) : W p l e R s m args below meth c H locs cells slots Q (F0 m pc ls (.ref x :: rest)) :=
  z_getM C hP (te_mem hm) rfl in_J18 3 (by decide) hw rfl hdg kk
theorem z_epa (C : zC p s m args c cc nL own D dA) (hP : va_P D vwCl (X ++ va_pl L (trE ke vl lf rt pa co)) H) (hm : x ∈ L) (hw : Cond.fieldLink own index (TJ18 4).1 (TJ18 4).2.1 (TJ18 4).2.2.1 ∈ lw_all) (hdg : decode cc pc = .ok (.getfield index, 3)) (kk : W p l e R s m args below meth c H locs cells slots Q (F0 m (pc + 3) ls (va_rf (pa x) :: rest))) : W p l e R s m args below meth c H locs cells slots Q (F0 m pc ls (.ref x :: rest)) :=
  z_getM C hP (te_mem hm) rfl in_J18 4 (by decide) hw rfl hdg kk
theorem z_eco (C : zC p s m args c cc nL own D dA) (hP : va_P D vwCl (X ++ va_pl L (trE ke vl lf rt pa co)) H) (hm : x ∈ L) (hw : Cond.fieldLink own index (TJ18 5).1 (TJ18 5).2.1 (TJ18 5).2.2.1 ∈ lw_all) (hdg : decode cc pc = .ok (.getfield index, 3)) (kk : W p l e R s m args below meth c H locs cells slots Q (F0 m (pc + 3) ls (.int (zB (co x)) :: rest))) : W p l e R s m args below meth c H locs cells slots Q (F0 m pc ls (.ref x :: rest)) :=
  z_getM C hP (te_mem hm) rfl in_J18 5 (by decide) hw rfl hdg kk
theorem te_lf {v9 : Option Nat} : va_up (trE ke vl lf rt pa co) x (.inr (14, [.ref (ke x), va_rf (vl x), va_rf (lf x), va_rf (rt x), va_rf (pa x), .int (zB (co x))].set 2 (va_rf v9))) = trE ke vl (va_up lf x v9) rt pa co := by
  funext a
  unfold va_up
  by_cases q : a = x
  · subst q; simp [trE]
  · simp [trE, q]
theorem z_eplf (C : zC p s m args c cc nL own D dA) (hP : va_P D vwCl (X ++ va_pl L (trE ke vl lf rt pa co)) H) (hD : va_D A (X ++ va_pl L (trE ke vl lf rt pa co))) (hS : va_S A H0 H locs) (hm : x ∈ L) {v9 : Option Nat} (hw : Cond.fieldLink own index (TJ18 2).1 (TJ18 2).2.1 (TJ18 2).2.2.1 ∈ lw_all) (hdg : decode cc pc = .ok (.putfield index, 3))
    (kk : ∀ (H1 : Heap) (locs1 : List Loc), va_P D vwCl (X ++ va_pl L (trE ke vl (va_up lf x v9) rt pa co)) H1 → va_D A (X ++ va_pl L (trE ke vl (va_up lf x v9) rt pa co)) → va_S A H0 H1 locs1 → W p l e R s m args below meth c H1 locs1 cells slots Q (F0 m (pc + 3) ls rest)) : W p l e R s m args below meth c H locs cells slots Q (F0 m pc ls (va_rf v9 :: .ref x :: rest)) := by
  refine z_putP C hP hD hS hm rfl rfl in_J18 tyJ18_ok nmJ18 2 (by decide) hw rfl (by cases v9 <;> rfl) (by cases v9 <;> rfl) (Nat.le_of_ble_eq_true rfl) hdg (fun H1 locs1 h1 h2 h3 => ?_)
  rw [te_lf] at h1 h2
  exact kk H1 locs1 h1 h2 h3
theorem te_rt {v9 : Option Nat} : va_up (trE ke vl lf rt pa co) x (.inr (14, [.ref (ke x), va_rf (vl x), va_rf (lf x), va_rf (rt x), va_rf (pa x), .int (zB (co x))].set 3 (va_rf v9))) = trE ke vl lf (va_up rt x v9) pa co := by
  funext a
  unfold va_up
  by_cases q : a = x
  · subst q; simp [trE]
  · simp [trE, q]
theorem z_eprt (C : zC p s m args c cc nL own D dA) (hP : va_P D vwCl (X ++ va_pl L (trE ke vl lf rt pa co)) H) (hD : va_D A (X ++ va_pl L (trE ke vl lf rt pa co))) (hS : va_S A H0 H locs) (hm : x ∈ L) {v9 : Option Nat} (hw : Cond.fieldLink own index (TJ18 3).1 (TJ18 3).2.1 (TJ18 3).2.2.1 ∈ lw_all) (hdg : decode cc pc = .ok (.putfield index, 3))
    (kk : ∀ (H1 : Heap) (locs1 : List Loc), va_P D vwCl (X ++ va_pl L (trE ke vl lf (va_up rt x v9) pa co)) H1 → va_D A (X ++ va_pl L (trE ke vl lf (va_up rt x v9) pa co)) → va_S A H0 H1 locs1 → W p l e R s m args below meth c H1 locs1 cells slots Q (F0 m (pc + 3) ls rest)) : W p l e R s m args below meth c H locs cells slots Q (F0 m pc ls (va_rf v9 :: .ref x :: rest)) := by
  refine z_putP C hP hD hS hm rfl rfl in_J18 tyJ18_ok nmJ18 3 (by decide) hw rfl (by cases v9 <;> rfl) (by cases v9 <;> rfl) (Nat.le_of_ble_eq_true rfl) hdg (fun H1 locs1 h1 h2 h3 => ?_)
  rw [te_rt] at h1 h2
  exact kk H1 locs1 h1 h2 h3
theorem te_pa {v9 : Option Nat} : va_up (trE ke vl lf rt pa co) x (.inr (14, [.ref (ke x), va_rf (vl x), va_rf (lf x), va_rf (rt x), va_rf (pa x), .int (zB (co x))].set 4 (va_rf v9))) = trE ke vl lf rt (va_up pa x v9) co := by
  funext a
  unfold va_up
  by_cases q : a = x
  · subst q; simp [trE]
  · simp [trE, q]
theorem z_eppa (C : zC p s m args c cc nL own D dA) (hP : va_P D vwCl (X ++ va_pl L (trE ke vl lf rt pa co)) H) (hD : va_D A (X ++ va_pl L (trE ke vl lf rt pa co))) (hS : va_S A H0 H locs) (hm : x ∈ L) {v9 : Option Nat} (hw : Cond.fieldLink own index (TJ18 4).1 (TJ18 4).2.1 (TJ18 4).2.2.1 ∈ lw_all) (hdg : decode cc pc = .ok (.putfield index, 3))
    (kk : ∀ (H1 : Heap) (locs1 : List Loc), va_P D vwCl (X ++ va_pl L (trE ke vl lf rt (va_up pa x v9) co)) H1 → va_D A (X ++ va_pl L (trE ke vl lf rt (va_up pa x v9) co)) → va_S A H0 H1 locs1 → W p l e R s m args below meth c H1 locs1 cells slots Q (F0 m (pc + 3) ls rest)) : W p l e R s m args below meth c H locs cells slots Q (F0 m pc ls (va_rf v9 :: .ref x :: rest)) := by
  refine z_putP C hP hD hS hm rfl rfl in_J18 tyJ18_ok nmJ18 4 (by decide) hw rfl (by cases v9 <;> rfl) (by cases v9 <;> rfl) (Nat.le_of_ble_eq_true rfl) hdg (fun H1 locs1 h1 h2 h3 => ?_)
  rw [te_pa] at h1 h2
  exact kk H1 locs1 h1 h2 h3
theorem te_co {v9 : Bool} : va_up (trE ke vl lf rt pa co) x (.inr (14, [.ref (ke x), va_rf (vl x), va_rf (lf x), va_rf (rt x), va_rf (pa x), .int (zB (co x))].set 5 (.int (zB v9)))) = trE ke vl lf rt pa (va_up co x v9) := by
  funext a
  unfold va_up
  by_cases q : a = x
  · subst q; simp [trE]
  · simp [trE, q]
theorem z_epco (C : zC p s m args c cc nL own D dA) (hP : va_P D vwCl (X ++ va_pl L (trE ke vl lf rt pa co)) H) (hD : va_D A (X ++ va_pl L (trE ke vl lf rt pa co))) (hS : va_S A H0 H locs) (hm : x ∈ L) {v9 : Bool} (hw : Cond.fieldLink own index (TJ18 5).1 (TJ18 5).2.1 (TJ18 5).2.2.1 ∈ lw_all) (hdg : decode cc pc = .ok (.putfield index, 3))
    (kk : ∀ (H1 : Heap) (locs1 : List Loc), va_P D vwCl (X ++ va_pl L (trE ke vl lf rt pa (va_up co x v9))) H1 → va_D A (X ++ va_pl L (trE ke vl lf rt pa (va_up co x v9))) → va_S A H0 H1 locs1 → W p l e R s m args below meth c H1 locs1 cells slots Q (F0 m (pc + 3) ls rest)) : W p l e R s m args below meth c H locs cells slots Q (F0 m pc ls (.int (zB v9) :: .ref x :: rest)) := by
  refine z_putP C hP hD hS hm rfl rfl in_J18 tyJ18_ok nmJ18 5 (by decide) hw rfl (by cases v9 <;> rfl) (by cases v9 <;> rfl) (Nat.le_of_ble_eq_true rfl) hdg (fun H1 locs1 h1 h2 h3 => ?_)
  rw [te_co] at h1 h2
  exact kk H1 locs1 h1 h2 h3
/-- a call that takes the whole world -/
theorem z_hVw (C : zC p s m args c cc nL own D dA) (hV : zEv B en fz A s) (hP : va_P D vwCl ws H) (hD : va_D A ws) (hS : va_S A s.heap H locs) (hA : ∀ q, s.heap.size ≤ q → A q) (hM : zH l y bytes maxL ret rm B en f9 D dA (.ref b :: As) ws v post w1) (hf9 : zFI f9 A s H) (hw : GoodIn lw_all (wsV own index y.cls y (ws_ y bytes maxL ret)))
    (hd : y.cls = y.cls ∧ y.cls ≠ "java/lang/invoke/MethodHandle" ∧ y.cls ≠ "java/lang/invoke/VarHandle" ∧ (parseMethodDescriptor y.desc).map (fun d => d.parameters.length) = some n) (hn : As.length = n) (hRm : rm.frames + 1 ≤ R.frames ∧ 8 + (maxL + 11) + rm.locals ≤ R.locals) (hz : ls.size = nL) (q0 : Nat) {ci : Nat} {fs : List Value} {T : u_T} {N : Nat} (hq : ws[q0]? = some (b, .inr (ci, fs))) (hc : vwCl[ci]? = some (y.cls, T, N))
    (hst : st0 = As.reverse ++ .ref b :: rest) (hroom : (rest.map fun v => v.category).sum ≤ 8) (hdg : decode cc pc = .ok (.invokevirtual index, 3)) (hcells : cells + rm.cells ≤ R.cells) (hslots : slots + rm.slots ≤ R.slots)
    (kk : ∀ (u : S) (H1 : Heap) (locs1 : List Loc), post u → va_P D vwCl (w1 u) H1 → va_D A (w1 u) → va_S A s.heap H1 locs1 → W p l e R s m args below meth c H1 locs1 (cells + rm.cells) (slots + rm.slots) Q (F0 m (pc + 3) ls ((v u).toList ++ rest))) : W p l e R s m args below meth c H locs cells slots Q (F0 m pc ls st0) := by
  have hC : (ixC ws.length).map (fun i => ws[i]?) = ws.map some := by simpa using ixC_ok ws []
  exact z_hV (wr := []) C hV hP hD hS hA (ixC ws.length) [] hC rfl (ixC_nd _) rfl (fun i hi => by cases hi) hM (hf9.narrow (va_free hD hS hA (ixC ws.length) hC)) hw hd hn hRm hz q0 hq hc hst hroom hdg hcells hslots (fun u H1 l1 a1 a2 a3 a4 _ => kk u H1 l1 a1 a2 a3 a4)
/-- a call that takes the whole world -/
theorem z_hSw (C : zC p s m args c cc nL own D dA) (hV : zEv B en fz A s) (hP : va_P D vwCl ws H) (hD : va_D A ws) (hS : va_S A s.heap H locs) (hA : ∀ q, s.heap.size ≤ q → A q) (hM : zH l y bytes maxL ret rm B en f9 D dA (As) ws v post w1) (hf9 : zFI f9 A s H) (hw : GoodIn lw_all (va_wsS own index y (ws_ y bytes maxL ret)))
    (hd : y.cls ≠ "java/lang/invoke/MethodHandle" ∧ y.cls ≠ "java/lang/invoke/VarHandle" ∧ (parseMethodDescriptor y.desc).map (fun d => d.parameters.length) = some n) (hn : As.length = n) (hRm : rm.frames + 1 ≤ R.frames ∧ 8 + (maxL + 11) + rm.locals ≤ R.locals) (hz : ls.size = nL) 
    (hst : st0 = As.reverse ++ rest) (hroom : (rest.map fun v => v.category).sum ≤ 8) (hdg : decode cc pc = .ok (.invokestatic index, 3)) (hcells : cells + rm.cells ≤ R.cells) (hslots : slots + rm.slots ≤ R.slots)
    (kk : ∀ (u : S) (H1 : Heap) (locs1 : List Loc), post u → va_P D vwCl (w1 u) H1 → va_D A (w1 u) → va_S A s.heap H1 locs1 → W p l e R s m args below meth c H1 locs1 (cells + rm.cells) (slots + rm.slots) Q (F0 m (pc + 3) ls ((v u).toList ++ rest))) : W p l e R s m args below meth c H locs cells slots Q (F0 m pc ls st0) := by
  have hC : (ixC ws.length).map (fun i => ws[i]?) = ws.map some := by simpa using ixC_ok ws []
  exact z_hS (wr := []) C hV hP hD hS hA (ixC ws.length) [] hC rfl (ixC_nd _) rfl (fun i hi => by cases hi) hM (hf9.narrow (va_free hD hS hA (ixC ws.length) hC)) hw hd hn hRm hz hst hroom hdg hcells hslots (fun u H1 l1 a1 a2 a3 a4 _ => kk u H1 l1 a1 a2 a3 a4)
end ZRT
