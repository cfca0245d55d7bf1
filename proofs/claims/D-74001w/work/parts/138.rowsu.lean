/-! A NEW ENTRY COMES INTO THE POOL -/
set_option maxRecDepth 100000
theorem P_perm {D : va_G} {cl : List vw_C} {w1 w2 : va_W} {H : Heap} (hp : w1.Perm w2) (h : va_P D cl w1 H) : va_P D cl w2 H := by
  rw [P_iff] at h ⊢
  exact fun q hq => h q (hp.mem_iff.mpr hq)
theorem D_perm {A : Nat → Prop} {w1 w2 : va_W} (hp : w1.Perm w2) (h : va_D A w1) : va_D A w2 := by
  rw [D_iff] at h ⊢
  exact ⟨hp.pairwise h.1 (fun {a b} q => q.symm), fun q hq => h.2 q (hp.mem_iff.mpr hq)⟩
theorem pool_perm {X : va_W} {L L' : List Nat} {E : Nat → va_E} (h : L.Perm L') : (X ++ va_pl L E).Perm (X ++ va_pl L' E) := List.Perm.append_left X (h.map _)
theorem te_push {L : List Nat} {ke : Nat → Nat} {vl lf rt pa : Nat → Option Nat} {co : Nat → Bool} {q k : Nat} {v p : Option Nat} {b : Bool} (h : q ∉ L) : va_pl L (trE ke vl lf rt pa co) ++ [(q, .inr (14, [.ref k, va_rf v, .null, .null, va_rf p, .int (zB b)]))] = va_pl (L ++ [q]) (trE (va_up ke q k) (va_up vl q v) (va_up lf q none) (va_up rt q none) (va_up pa q p) (va_up co q b)) := by
  rw [va_pl_push h]
  apply va_pl_congr
  intro a
  unfold va_up
  by_cases z : a = q
  · subst z; simp [trE, va_rf]
  · simp [trE, z]
section ZU
variable {p : Program} {l : Launch} {e : Env} {R : Room} {s : State} {m : MethodId} {args : Array Value} {below : List Frame} {meth : Method} {c : Code} {H : Heap} {locs : List Loc} {cells slots : Nat} {Q : State → Prop}
variable {cc : ByteArray} {nL : Nat} {own : String} {D : va_G} {dA : Nat → ClassId} {pc : Nat} {ls : Array Slot} {rest st0 : List Value} {A : Nat → Prop} {x : Nat} {ws : va_W} {H0 : Heap}
variable {y : MethodName} {bytes : ByteArray} {maxL index : Nat} {ret : Option FieldType} {b n : Nat} {As av : List Value} {wc wr : va_W} {S : Type} {v : S → Option Value} {post : S → Prop} {w1 : S → va_W} {rm : Room}
variable {e9 : Nat × va_E}
/-- a constructor's call on the last cell -/
theorem z_gIl (C : zC p s m args c cc nL own D dA) (hP : va_P D vwCl (ws ++ [e9]) H) (hD : va_D A (ws ++ [e9])) (hS : va_S A H0 H locs) (hA : ∀ q, H0.size ≤ q → A q) (hM : zG l y bytes maxL none rm D dA (.ref b :: As) [e9] v post w1) (hcode : Cond.code y bytes maxL none ∈ lw_all) (hini : Cond.initialized y.cls ∈ lw_all) (hlink : Cond.methodLink own index y ∈ lw_all) (hinst : Cond.instanceMethod y ∈ lw_all) (hy1 : y.name = "<init>")
    (hd : y.cls ≠ "java/lang/invoke/MethodHandle" ∧ y.cls ≠ "java/lang/invoke/VarHandle" ∧ (parseMethodDescriptor y.desc).map (fun d => d.parameters.length) = some n) (hn : As.length = n) (hRm : rm.frames + 1 ≤ R.frames ∧ 8 + (maxL + 11) + rm.locals ≤ R.locals) (hz : ls.size = nL)
    (hst : st0 = As.reverse ++ .ref b :: rest) (hroom : (rest.map fun v => v.category).sum ≤ 8) (hdg : decode cc pc = .ok (.invokespecial index, 3)) (hcells : cells + rm.cells ≤ R.cells) (hslots : slots + rm.slots ≤ R.slots)
    (kk : ∀ (u : S) (H1 : Heap) (locs1 : List Loc), post u → va_P D vwCl (ws ++ w1 u) H1 → va_D A (ws ++ w1 u) → va_S A H0 H1 locs1 → W p l e R s m args below meth c H1 locs1 (cells + rm.cells) (slots + rm.slots) Q (F0 m (pc + 3) ls ((v u).toList ++ rest))) : W p l e R s m args below meth c H locs cells slots Q (F0 m pc ls st0) := by
  have hC : [ws.length].map (fun i => (ws ++ [e9])[i]?) = [e9].map some := by simp
  have hR : (ixC ws.length).map (fun i => (ws ++ [e9])[i]?) = ws.map some := ixC_ok ws [e9]
  exact z_gI C hP hD hS hA [ws.length] (ixC ws.length) hC hR rfl (ixC_nd _) (fun i hi => by unfold ixC at hi; simp at hi ⊢; omega) hM hcode hini hlink hinst hy1 hd hn hRm hz hst hroom hdg hcells hslots (fun u H1 l1 a1 a2 a3 a4 _ => kk u H1 l1 a1 a2 a3 a4)
end ZU
