/-! ROWS 6: references -/
def cpy (f g : Nat → Int) (n j : Nat) : Int := if j < n then f j else g j
section ZR6
variable {p : Program} {l : Launch} {e : Env} {R : Room} {s : State} {m : MethodId} {args : Array Value} {below : List Frame} {meth : Method} {c : Code} {H : Heap} {locs : List Loc} {cells slots : Nat} {Q : State → Prop}
variable {cc : ByteArray} {nL : Nat} {own : String} {D : va_G} {dA : Nat → ClassId} {pc : Nat} {ls : Array Slot} {rest : List Value} {A : Nat → Prop} {ws : va_W} {H0 : Heap} {x : Nat}
theorem z_aret (C : zC p s m args c cc nL own D dA) (hlk : meth.locks = false) {rt : FieldType} (hr : meth.sig.returnType = some rt) (hrt : (∃ n, rt = .object n) ∨ ∃ t, rt = .array t) {a b : Value} (ha : a = .null ∨ ∃ q, a = .ref q) (hQ : Q = MQ below (zQ (some b)) args s 0 0 (fun _ => False)) (h : a = b) (hdg : decode cc pc = .ok (.areturn, 1)) : W p l e R s m args below meth c s.heap [] 0 0 Q (F0 m pc ls [a]) := by
  subst hQ
  exact W.aret C.1.1 C.1.2.1 hr hrt ha (fun t ht _ => ⟨by rw [h], ht⟩) (fun _ h => by cases h) hdg hlk
theorem cpy_eq (f g : Nat → Int) (n : Nat) : va_cpy (fun j => zI (f j)) (fun j => zI (g j)) 0 0 n = fun j => zI (cpy f g n j) := by
  funext j
  unfold va_cpy cpy
  by_cases q : j < n
  · rw [if_pos (by omega), if_pos q]; simp
  · rw [if_neg (by omega), if_neg q]
/-- ints copied from the start of a row to the start of another -/
theorem z_acopy (C : zC p s m args c cc nL own D dA) (hP : va_P D vwCl ws H) (hD : va_D A ws) (hS : va_S A H0 H locs) (q0 q1 : Nat) {a0 n0 n1 index : Nat} {f g : Nat → Int} (he0 : ws[q0]? = some (a0, .inl (dA 3, n0, .inl (fun j => zI (f j))))) (he1 : ws[q1]? = some (x, .inl (dA 3, n1, .inl (fun j => zI (g j))))) {t : Int} (n : Nat) (ht : t = (n : Int)) (h0 : n ≤ n0) (h1 : n ≤ n1) (hn : n ≤ 1000000) (hlink : Cond.methodLink own index arraycopyName ∈ lw_all) (hz : ls.size = nL) (hf : 1 ≤ R.frames) (hlo : 26 ≤ R.locals) {ws' : va_W} (hset : ws.set q1 (x, .inl (dA 3, n1, .inl (fun j => zI (cpy f g n j)))) = ws') (hdg : decode cc pc = .ok (.invokestatic index, 3))
    (kk : ∀ (H1 : Heap) (locs1 : List Loc), va_P D vwCl ws' H1 → va_D A ws' → va_S A H0 H1 locs1 → W p l e R s m args below meth c H1 locs1 cells slots Q (F0 m (pc + 3) ls [])) : W p l e R s m args below meth c H locs cells slots Q (F0 m pc ls [.int (zI t), .int (zI 0), .ref x, .int (zI 0), .ref a0]) := by
  subst ht
  subst hset
  have hcl : (zI (n : Int)).toNatClampNeg = n := zI_clampN (by omega)
  have hc0 : (zI 0).toNatClampNeg = 0 := rfl
  refine va_copyi C.1.1 C.1.2.1 (by rw [C.1.2.2.1]; exact hz.symm) C.1.2.2.2.1 (C.1.2.2.2.2 _ hlink) (C.1.2.2.2.2 _ q808) (C.1.2.2.2.2 _ q807) (C.1.2.2.2.2 _ q129) C.2.1 hP hD hS q0 q1 3 3 (ty := .int) he0 he1 rfl rfl rfl (by decide) (by decide) (fun q => by rw [Int32.lt_iff_toInt_lt, zI_toInt ⟨by omega, by omega⟩] at q; have : (0 : Int32).toInt = 0 := rfl; omega) (by rw [hcl, hc0]; omega) (by rw [hcl, hc0]; omega) (fun _ _ => rfl) hf (by have h9 : nativeFrameWords "java/lang/System" "arraycopy" 5 = 7 := rfl; rw [h9]; simp only [List.map_nil, List.sum_nil]; omega) hdg (fun H1 locs1 k1 k2 k3 => ?_)
  rw [hcl, hc0, cpy_eq] at k1 k2
  exact kk H1 locs1 k1 k2 k3
theorem z_ifnull (C : zC p s m args c cc nL own D dA) {x : Option Nat} {off : Int} {tgt : Nat} (hdg : decode cc pc = .ok (.ifnull off, 3)) (ht : (pc : Int) + off = (tgt : Int)) (kt : x = none → W p l e R s m args below meth c H locs cells slots Q (F0 m tgt ls rest)) (kf : ¬ x = none → W p l e R s m args below meth c H locs cells slots Q (F0 m (pc + 3) ls rest)) : W p l e R s m args below meth c H locs cells slots Q (F0 m pc ls (va_rf x :: rest)) := by
  cases x with
  | none => exact lv_ifnullN C.1.1 C.1.2.1 hdg ht (kt rfl)
  | some y => exact lv_ifnull C.1.1 C.1.2.1 hdg (kf (fun q => by cases q))
theorem z_ifnonnull (C : zC p s m args c cc nL own D dA) {x : Option Nat} {off : Int} {tgt : Nat} (hdg : decode cc pc = .ok (.ifnonnull off, 3)) (ht : (pc : Int) + off = (tgt : Int)) (kt : ¬ x = none → W p l e R s m args below meth c H locs cells slots Q (F0 m tgt ls rest)) (kf : x = none → W p l e R s m args below meth c H locs cells slots Q (F0 m (pc + 3) ls rest)) : W p l e R s m args below meth c H locs cells slots Q (F0 m pc ls (va_rf x :: rest)) := by
  cases x with
  | none => exact lv_ifnonnullN C.1.1 C.1.2.1 hdg (kf rfl)
  | some y => exact lv_ifnonnull C.1.1 C.1.2.1 hdg ht (kt (fun q => by cases q))
end ZR6
