/-! ROWS 9: getClass, arraycopy of rows of objects (printed by tools/mkrows9.py) -/
set_option maxRecDepth 100000
section ZR9
variable {p : Program} {l : Launch} {e : Env} {R : Room} {s : State} {m : MethodId} {args : Array Value} {below : List Frame} {meth : Method} {c : Code} {H : Heap} {locs : List Loc} {cells slots : Nat} {Q : State → Prop}
variable {cc : ByteArray} {nL : Nat} {own : String} {D : va_G} {dA : Nat → ClassId} {pc : Nat} {ls : Array Slot} {rest : List Value} {A : Nat → Prop} {ws : va_W} {H0 : Heap} {x : Nat}
variable {B : Nat} {en : Nat → Nat → Nat} {fz : zFt}
theorem z_getC (C : zC p s m args c cc nL own D dA) (hV : zEv B en fz A s) (hP : va_P D vwCl ws H) (q0 : Nat) {n index : Nat} {f : Nat → Option Nat} (he : ws[q0]? = some (x, .inl (dA 7, n, .inr (.inr (.inr (.inr f)))))) (hlink : Cond.methodLink own index ⟨"java/lang/Object", "getClass", "()Ljava/lang/Class;"⟩ ∈ lw_all) (hz : ls.size = nL) (hf : 1 ≤ R.frames) (hlo : 26 ≤ R.locals) (hroom : (rest.map fun v => v.category).sum ≤ 8) (hdg : decode cc pc = .ok (.invokevirtual index, 3))
    (kk : W p l e R s m args below meth c H locs cells slots Q (F0 m (pc + 3) ls (.ref (en 6 0) :: rest))) : W p l e R s m args below meth c H locs cells slots Q (F0 m pc ls (.ref x :: rest)) := by
  refine va_getC C.1.1 C.1.2.1 (by rw [C.1.2.2.1]; exact hz.symm) C.1.2.2.2.1 (C.1.2.2.2.2 _ hlink) (z_mir hV).2.use (C.1.2.2.2.2 _ q2411) (C.1.2.2.2.2 _ q870) (C.1.2.2.2.2 _ q893) (z_mir hV).1 ⟨_, hP q0 _ he, rfl, ?_⟩ hf (by omega) hdg kk
  exact va_nmO (C.2.1.2 7 _ rfl).2 rfl
theorem z_acopyO (C : zC p s m args c cc nL own D dA) (hP : va_P D vwCl ws H) (hD : va_D A ws) (hS : va_S A H0 H locs) (q0 q1 : Nat) {a0 n0 n1 index : Nat} {f g : Nat → Option Nat} (he0 : ws[q0]? = some (a0, .inl (dA 7, n0, .inr (.inr (.inr (.inr f)))))) (he1 : ws[q1]? = some (x, .inl (dA 7, n1, .inr (.inr (.inr (.inr g)))))) {t1 t2 t3 : Int} (sp dp n : Nat) (h1 : t1 = (sp : Int)) (h2 : t2 = (dp : Int)) (h3 : t3 = (n : Int)) (hs : sp + n ≤ n0) (hd9 : dp + n ≤ n1) (hn : n0 ≤ 1000000 ∧ n1 ≤ 1000000) {Cn : String} (hel : ∀ i, i < n → ∀ y : Nat, f (sp + i) = some y → ∃ cellV : Cell, H[y]? = some cellV ∧ cellV.vm.isStatics = false ∧ s.vm.findClass Cn = some cellV.cls) (hc : (Cn, "java/lang/Object") ∈ zCast)
    (hlink : Cond.methodLink own index arraycopyName ∈ lw_all) (hz : ls.size = nL) (hf : 1 ≤ R.frames) (hlo : 26 ≤ R.locals) {ws' : va_W} (hset : ws.set q1 (x, .inl (dA 7, n1, .inr (.inr (.inr (.inr (va_cpy f g sp dp n)))))) = ws') (hdg : decode cc pc = .ok (.invokestatic index, 3))
    (kk : ∀ (H1 : Heap) (locs1 : List Loc), va_P D vwCl ws' H1 → va_D A ws' → va_S A H0 H1 locs1 → W p l e R s m args below meth c H1 locs1 cells slots Q (F0 m (pc + 3) ls [])) : W p l e R s m args below meth c H locs cells slots Q (F0 m pc ls [.int (zI t3), .int (zI t2), .ref x, .int (zI t1), .ref a0]) := by
  subst h1 h2 h3
  subst hset
  have e1 : (zI (sp : Int)).toNatClampNeg = sp := zI_clampN (by omega)
  have e2 : (zI (dp : Int)).toNatClampNeg = dp := zI_clampN (by omega)
  have e3 : (zI (n : Int)).toNatClampNeg = n := zI_clampN (by omega)
  have nn : ∀ k : Nat, k ≤ 1000000 → ¬ zI (k : Int) < 0 := fun k hk q => by
    rw [Int32.lt_iff_toInt_lt, zI_toInt ⟨by omega, by omega⟩] at q
    have : (0 : Int32).toInt = 0 := rfl
    omega
  refine va_copyq C.1.1 C.1.2.1 (by rw [C.1.2.2.1]; exact hz.symm) C.1.2.2.2.1 (C.1.2.2.2.2 _ hlink) (C.1.2.2.2.2 _ q808) (C.1.2.2.2.2 _ q807) (C.1.2.2.2.2 _ q129) C.2.1 hP hD hS q0 q1 7 7 he0 he1 rfl rfl (nn sp (by omega)) (nn dp (by omega)) (nn n (by omega)) (by rw [e1, e3]; exact hs) (by rw [e2, e3]; exact hd9) (C := Cn) (fun i hi y hy => hel i (by rw [e3] at hi; exact hi) y (by rw [e1] at hy; exact hy)) (fun comp c0 k1 k2 => vb_asgC (C.2.2.2.2.1 _ hc) comp c0 k1 k2) hf (by have h9 : nativeFrameWords "java/lang/System" "arraycopy" 5 = 7 := rfl; rw [h9]; simp only [List.map_nil, List.sum_nil]; omega) hdg (fun H1 locs1 k1 k2 k3 => ?_)
  rw [e1, e2, e3] at k1 k2
  exact kk H1 locs1 k1 k2 k3
end ZR9
