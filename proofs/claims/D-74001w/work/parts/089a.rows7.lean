/-! ROWS 7: Math -/
section ZR7
variable {p : Program} {l : Launch} {e : Env} {R : Room} {s : State} {m : MethodId} {args : Array Value} {below : List Frame} {meth : Method} {c : Code} {H : Heap} {locs : List Loc} {cells slots : Nat} {Q : State → Prop}
variable {cc : ByteArray} {nL : Nat} {own : String} {D : va_G} {dA : Nat → ClassId} {pc : Nat} {ls : Array Slot} {rest : List Value}
theorem z_mmax (C : zC p s m args c cc nL own D dA) {a b : Int} {index : Nat} (ha : zR a) (hb : zR b) (hlink : Cond.methodLink own index Lib.Math.max.name ∈ lw_all) (hz : ls.size = nL) (hf : 1 ≤ R.frames) (hlo : (rest.map fun v => v.category).sum + 13 ≤ R.locals) (hc : cells ≤ R.cells) (hs : slots ≤ R.slots) (hdg : decode cc pc = .ok (.invokestatic index, 3))
    (kk : W p l e R s m args below meth c H locs cells slots Q (F0 m (pc + 3) ls (.int (zI (if a < b then b else a)) :: rest))) : W p l e R s m args below meth c H locs cells slots Q (F0 m pc ls (.int (zI b) :: .int (zI a) :: rest)) := by
  refine va_mmax C.1.1 C.1.2.1 (by rw [C.1.2.2.1]; exact hz.symm) C.1.2.2.2.1 (C.1.2.2.2.2 _ hlink) (C.1.2.2.2.2 _ q1344) (C.1.2.2.2.2 _ q131) (C.1.2.2.2.2 _ q1345) hf hlo hc hs hdg ?_
  by_cases h : a < b
  · rw [if_pos h] at kk
    rw [if_pos ((zI_lt ha hb).mpr h)]
    exact kk
  · rw [if_neg h] at kk
    rw [if_neg (fun q => h ((zI_lt ha hb).mp q))]
    exact kk
theorem z_mmin (C : zC p s m args c cc nL own D dA) {a b : Int} {index : Nat} (ha : zR a) (hb : zR b) (hlink : Cond.methodLink own index Lib.Math.min.name ∈ lw_all) (hz : ls.size = nL) (hf : 1 ≤ R.frames) (hlo : (rest.map fun v => v.category).sum + 13 ≤ R.locals) (hc : cells ≤ R.cells) (hs : slots ≤ R.slots) (hdg : decode cc pc = .ok (.invokestatic index, 3))
    (kk : W p l e R s m args below meth c H locs cells slots Q (F0 m (pc + 3) ls (.int (zI (if b < a then b else a)) :: rest))) : W p l e R s m args below meth c H locs cells slots Q (F0 m pc ls (.int (zI b) :: .int (zI a) :: rest)) := by
  refine va_mmin C.1.1 C.1.2.1 (by rw [C.1.2.2.1]; exact hz.symm) C.1.2.2.2.1 (C.1.2.2.2.2 _ hlink) (C.1.2.2.2.2 _ q900) (C.1.2.2.2.2 _ q131) (C.1.2.2.2.2 _ q901) hf hlo hc hs hdg ?_
  by_cases h : b < a
  · rw [if_pos h] at kk
    rw [if_pos ((zI_lt hb ha).mpr h)]
    exact kk
  · rw [if_neg h] at kk
    rw [if_neg (fun q => h ((zI_lt hb ha).mp q))]
    exact kk
theorem z_mabs (C : zC p s m args c cc nL own D dA) {a : Int} {index : Nat} (ha : zR a) (hlink : Cond.methodLink own index Lib.Math.abs.name ∈ lw_all) (hz : ls.size = nL) (hf : 1 ≤ R.frames) (hlo : (rest.map fun v => v.category).sum + 13 ≤ R.locals) (hc : cells ≤ R.cells) (hs : slots ≤ R.slots) (hdg : decode cc pc = .ok (.invokestatic index, 3))
    (kk : W p l e R s m args below meth c H locs cells slots Q (F0 m (pc + 3) ls (.int (zI ((a.natAbs : Nat) : Int)) :: rest))) : W p l e R s m args below meth c H locs cells slots Q (F0 m pc ls (.int (zI a) :: rest)) := by
  refine va_mabs C.1.1 C.1.2.1 (by rw [C.1.2.2.1]; exact hz.symm) C.1.2.2.2.1 (C.1.2.2.2.2 _ hlink) (C.1.2.2.2.2 _ q1477) (C.1.2.2.2.2 _ q131) (C.1.2.2.2.2 _ q1478) hf (by omega) hc hs hdg ?_
  by_cases h : 0 ≤ a
  · rw [if_pos (show (0 : Int32) ≤ zI a from (zI_le zR_0 ha).mpr h)]
    rw [show ((a.natAbs : Nat) : Int) = a by omega] at kk
    exact kk
  · rw [if_neg (show ¬ (0 : Int32) ≤ zI a from fun q => h ((zI_le zR_0 ha).mp q))]
    rw [show ((a.natAbs : Nat) : Int) = 0 - a by omega, ← zI_sub] at kk
    exact kk
theorem z_mmaxl (C : zC p s m args c cc nL own D dA) {a b : Int} {index : Nat} (ha : lR a) (hb : lR b) (hlink : Cond.methodLink own index Lib.MathLoose.max_long.x ∈ lw_all) (hz : ls.size = nL) (hf : 1 ≤ R.frames) (hlo : (rest.map fun v => v.category).sum + 15 ≤ R.locals) (hc : cells ≤ R.cells) (hs : slots ≤ R.slots) (hdg : decode cc pc = .ok (.invokestatic index, 3))
    (kk : W p l e R s m args below meth c H locs cells slots Q (F0 m (pc + 3) ls (.long (lI (if b < a then a else b)) :: rest))) : W p l e R s m args below meth c H locs cells slots Q (F0 m pc ls (.long (lI b) :: .long (lI a) :: rest)) := by
  refine va_mmax_long C.1.1 C.1.2.1 (by rw [C.1.2.2.1]; exact hz.symm) C.1.2.2.2.1 (C.1.2.2.2.2 _ hlink) (C.1.2.2.2.2 _ q1799) (C.1.2.2.2.2 _ q131) (C.1.2.2.2.2 _ q1800) hf (by omega) hc hs hdg ?_
  by_cases h : b < a
  · rw [if_pos h] at kk
    rw [if_pos ((lI_lt hb ha).mpr h)]
    exact kk
  · rw [if_neg h] at kk
    rw [if_neg (fun q => h ((lI_lt hb ha).mp q))]
    exact kk
end ZR7
