/-! ROWS 3 -/
section ZR3
variable {p : Program} {l : Launch} {e : Env} {R : Room} {s : State} {m : MethodId} {args : Array Value} {below : List Frame} {meth : Method} {c : Code} {H : Heap} {locs : List Loc} {cells slots : Nat} {Q : State → Prop}
variable {cc : ByteArray} {nL : Nat} {own : String} {D : va_G} {dA : Nat → ClassId} {pc : Nat} {ls : Array Slot} {rest : List Value}
theorem z_ishlN (C : zC p s m args c cc nL own D dA) {ta tb : Int} (a n : Nat) (ha : ta = (a : Int)) (hb : tb = (n : Int)) (hn : n < 32) (hdg : decode cc pc = .ok (.ishl, 1))
    (k : W p l e R s m args below meth c H locs cells slots Q (F0 m (pc + 1) ls (.int (zI ((a * 2 ^ n : Nat) : Int)) :: rest))) : W p l e R s m args below meth c H locs cells slots Q (F0 m pc ls (.int (zI tb) :: .int (zI ta) :: rest)) := by
  subst ha
  refine z_ishl C n hb hn hdg ?_
  rw [show (a : Int) * 2 ^ n = ((a * 2 ^ n : Nat) : Int) by simp]
  exact k
theorem z_tsw (C : zC p s m args c cc nL own D dA) {dflt lo hi : Int} {offs : Array Int} {len : Nat} {t : Int} (ht : zR t) (tgt : Int → Nat) (dt : Nat) (hdg : decode cc pc = .ok (.tableswitch dflt lo hi offs, len))
    (hd : (pc : Int) + dflt = (dt : Int)) (kd : (t < lo ∨ hi < t) → W p l e R s m args below meth c H locs cells slots Q (F0 m dt ls rest))
    (ki : ¬ t < lo → ¬ hi < t → ∃ (off : Int), offs[(t - lo).toNat]? = some off ∧ (pc : Int) + off = (tgt t : Int) ∧ W p l e R s m args below meth c H locs cells slots Q (F0 m (tgt t) ls rest)) : W p l e R s m args below meth c H locs cells slots Q (F0 m pc ls (.int (zI t) :: rest)) := by
  by_cases h : t < lo ∨ hi < t
  · exact lv_tableOut C.1.1 C.1.2.1 hdg (by rw [zI_toInt ht]; exact h) hd (kd h)
  · have h1 : ¬ t < lo := fun q => h (Or.inl q)
    have h2 : ¬ hi < t := fun q => h (Or.inr q)
    obtain ⟨off, g1, g2, g3⟩ := ki h1 h2
    exact lv_tableIn C.1.1 C.1.2.1 hdg (by rw [zI_toInt ht]; exact h1) (by rw [zI_toInt ht]; exact h2) (by rw [zI_toInt ht]; exact g1) g2 g3
end ZR3
