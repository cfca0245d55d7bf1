/-! ROWS 4: two longs compared, and the branch behind -/
section ZR4
variable {p : Program} {l : Launch} {e : Env} {R : Room} {s : State} {m : MethodId} {args : Array Value} {below : List Frame} {meth : Method} {c : Code} {H : Heap} {locs : List Loc} {cells slots : Nat} {Q : State → Prop}
variable {cc : ByteArray} {nL : Nat} {own : String} {D : va_G} {dA : Nat → ClassId} {pc : Nat} {ls : Array Slot} {rest : List Value}
theorem lv_lcmpG (hexec : p.tables.exec = Jvm.exec) (hb : c.code = cc) {x y : Int64} (h : x > y) (hdg : decode cc pc = .ok (.lcmp, 1))
    (k : W p l e R s m args below meth c H locs cells slots Q (F0 m (pc + 1) ls (.int 1 :: rest))) : W p l e R s m args below meth c H locs cells slots Q (F0 m pc ls (.long y :: .long x :: rest)) := by
  skip
  skip
  skip
  intro T hT X
  obtain ⟨t, a, b⟩ := k T hT X
  refine ⟨t, ?_, b⟩
  jvm_step X.here [X.here.top, hexec, hb, hdg, h]
  exact a
theorem lv_lcmpE (hexec : p.tables.exec = Jvm.exec) (hb : c.code = cc) {x y : Int64} (h : x = y) (hdg : decode cc pc = .ok (.lcmp, 1))
    (k : W p l e R s m args below meth c H locs cells slots Q (F0 m (pc + 1) ls (.int 0 :: rest))) : W p l e R s m args below meth c H locs cells slots Q (F0 m pc ls (.long y :: .long x :: rest)) := by
  subst h
  have h : ¬ x > x := by rw [gt_iff_lt, Int64.lt_iff_toInt_lt]; omega
  have h2 : (x == x) = true := beq_self_eq_true x
  intro T hT X
  obtain ⟨t, a, b⟩ := k T hT X
  refine ⟨t, ?_, b⟩
  jvm_step X.here [X.here.top, hexec, hb, hdg, h, h2]
  exact a
theorem lv_lcmpL (hexec : p.tables.exec = Jvm.exec) (hb : c.code = cc) {x y : Int64} (h : ¬ x > y) (h2 : ¬ x = y) (hdg : decode cc pc = .ok (.lcmp, 1))
    (k : W p l e R s m args below meth c H locs cells slots Q (F0 m (pc + 1) ls (.int (-1) :: rest))) : W p l e R s m args below meth c H locs cells slots Q (F0 m pc ls (.long y :: .long x :: rest)) := by
  skip
  skip
  skip
  intro T hT X
  obtain ⟨t, a, b⟩ := k T hT X
  refine ⟨t, ?_, b⟩
  jvm_step X.here [X.here.top, hexec, hb, hdg, h, h2]
  exact a
theorem z_lc_eq (C : zC p s m args c cc nL own D dA) {a b : Int} (ha : lR a) (hb : lR b) {off : Int} {tgt : Nat} (hd1 : decode cc pc = .ok (.lcmp, 1)) (hd2 : decode cc (pc + 1) = .ok (.ifCond .eq off, 3)) (ht : ((pc + 1 : Nat) : Int) + off = (tgt : Int))
    (kt : a = b → W p l e R s m args below meth c H locs cells slots Q (F0 m tgt ls rest)) (kf : ¬ a = b → W p l e R s m args below meth c H locs cells slots Q (F0 m (pc + 4) ls rest)) : W p l e R s m args below meth c H locs cells slots Q (F0 m pc ls (.long (lI b) :: .long (lI a) :: rest)) := by
  rcases (show b < a ∨ a = b ∨ a < b by omega) with h | h | h
  · refine lv_lcmpG C.1.1 C.1.2.1 ((lI_lt hb ha).mpr h) hd1 ?_
    exact z_if_eq (a := 1) C ⟨by decide, by decide⟩ hd2 ht (fun q => kt (by omega)) (fun q => kf (by omega))
  · refine lv_lcmpE C.1.1 C.1.2.1 (by rw [h]) hd1 ?_
    exact z_if_eq (a := 0) C ⟨by decide, by decide⟩ hd2 ht (fun q => kt (by omega)) (fun q => kf (by omega))
  · refine lv_lcmpL C.1.1 C.1.2.1 (fun q => by have := (lI_lt hb ha).mp q; omega) (fun q => by have := lI_inj ha hb q; omega) hd1 ?_
    exact z_if_eq (a := -1) C ⟨by decide, by decide⟩ hd2 ht (fun q => kt (by omega)) (fun q => kf (by omega))
theorem z_lc_ne (C : zC p s m args c cc nL own D dA) {a b : Int} (ha : lR a) (hb : lR b) {off : Int} {tgt : Nat} (hd1 : decode cc pc = .ok (.lcmp, 1)) (hd2 : decode cc (pc + 1) = .ok (.ifCond .ne off, 3)) (ht : ((pc + 1 : Nat) : Int) + off = (tgt : Int))
    (kt : ¬ a = b → W p l e R s m args below meth c H locs cells slots Q (F0 m tgt ls rest)) (kf : a = b → W p l e R s m args below meth c H locs cells slots Q (F0 m (pc + 4) ls rest)) : W p l e R s m args below meth c H locs cells slots Q (F0 m pc ls (.long (lI b) :: .long (lI a) :: rest)) := by
  rcases (show b < a ∨ a = b ∨ a < b by omega) with h | h | h
  · refine lv_lcmpG C.1.1 C.1.2.1 ((lI_lt hb ha).mpr h) hd1 ?_
    exact z_if_ne (a := 1) C ⟨by decide, by decide⟩ hd2 ht (fun q => kt (by omega)) (fun q => kf (by omega))
  · refine lv_lcmpE C.1.1 C.1.2.1 (by rw [h]) hd1 ?_
    exact z_if_ne (a := 0) C ⟨by decide, by decide⟩ hd2 ht (fun q => kt (by omega)) (fun q => kf (by omega))
  · refine lv_lcmpL C.1.1 C.1.2.1 (fun q => by have := (lI_lt hb ha).mp q; omega) (fun q => by have := lI_inj ha hb q; omega) hd1 ?_
    exact z_if_ne (a := -1) C ⟨by decide, by decide⟩ hd2 ht (fun q => kt (by omega)) (fun q => kf (by omega))
theorem z_lc_lt (C : zC p s m args c cc nL own D dA) {a b : Int} (ha : lR a) (hb : lR b) {off : Int} {tgt : Nat} (hd1 : decode cc pc = .ok (.lcmp, 1)) (hd2 : decode cc (pc + 1) = .ok (.ifCond .lt off, 3)) (ht : ((pc + 1 : Nat) : Int) + off = (tgt : Int))
    (kt : a < b → W p l e R s m args below meth c H locs cells slots Q (F0 m tgt ls rest)) (kf : b ≤ a → W p l e R s m args below meth c H locs cells slots Q (F0 m (pc + 4) ls rest)) : W p l e R s m args below meth c H locs cells slots Q (F0 m pc ls (.long (lI b) :: .long (lI a) :: rest)) := by
  rcases (show b < a ∨ a = b ∨ a < b by omega) with h | h | h
  · refine lv_lcmpG C.1.1 C.1.2.1 ((lI_lt hb ha).mpr h) hd1 ?_
    exact z_if_lt (a := 1) C ⟨by decide, by decide⟩ hd2 ht (fun q => kt (by omega)) (fun q => kf (by omega))
  · refine lv_lcmpE C.1.1 C.1.2.1 (by rw [h]) hd1 ?_
    exact z_if_lt (a := 0) C ⟨by decide, by decide⟩ hd2 ht (fun q => kt (by omega)) (fun q => kf (by omega))
  · refine lv_lcmpL C.1.1 C.1.2.1 (fun q => by have := (lI_lt hb ha).mp q; omega) (fun q => by have := lI_inj ha hb q; omega) hd1 ?_
    exact z_if_lt (a := -1) C ⟨by decide, by decide⟩ hd2 ht (fun q => kt (by omega)) (fun q => kf (by omega))
theorem z_lc_ge (C : zC p s m args c cc nL own D dA) {a b : Int} (ha : lR a) (hb : lR b) {off : Int} {tgt : Nat} (hd1 : decode cc pc = .ok (.lcmp, 1)) (hd2 : decode cc (pc + 1) = .ok (.ifCond .ge off, 3)) (ht : ((pc + 1 : Nat) : Int) + off = (tgt : Int))
    (kt : b ≤ a → W p l e R s m args below meth c H locs cells slots Q (F0 m tgt ls rest)) (kf : a < b → W p l e R s m args below meth c H locs cells slots Q (F0 m (pc + 4) ls rest)) : W p l e R s m args below meth c H locs cells slots Q (F0 m pc ls (.long (lI b) :: .long (lI a) :: rest)) := by
  rcases (show b < a ∨ a = b ∨ a < b by omega) with h | h | h
  · refine lv_lcmpG C.1.1 C.1.2.1 ((lI_lt hb ha).mpr h) hd1 ?_
    exact z_if_ge (a := 1) C ⟨by decide, by decide⟩ hd2 ht (fun q => kt (by omega)) (fun q => kf (by omega))
  · refine lv_lcmpE C.1.1 C.1.2.1 (by rw [h]) hd1 ?_
    exact z_if_ge (a := 0) C ⟨by decide, by decide⟩ hd2 ht (fun q => kt (by omega)) (fun q => kf (by omega))
  · refine lv_lcmpL C.1.1 C.1.2.1 (fun q => by have := (lI_lt hb ha).mp q; omega) (fun q => by have := lI_inj ha hb q; omega) hd1 ?_
    exact z_if_ge (a := -1) C ⟨by decide, by decide⟩ hd2 ht (fun q => kt (by omega)) (fun q => kf (by omega))
theorem z_lc_gt (C : zC p s m args c cc nL own D dA) {a b : Int} (ha : lR a) (hb : lR b) {off : Int} {tgt : Nat} (hd1 : decode cc pc = .ok (.lcmp, 1)) (hd2 : decode cc (pc + 1) = .ok (.ifCond .gt off, 3)) (ht : ((pc + 1 : Nat) : Int) + off = (tgt : Int))
    (kt : b < a → W p l e R s m args below meth c H locs cells slots Q (F0 m tgt ls rest)) (kf : a ≤ b → W p l e R s m args below meth c H locs cells slots Q (F0 m (pc + 4) ls rest)) : W p l e R s m args below meth c H locs cells slots Q (F0 m pc ls (.long (lI b) :: .long (lI a) :: rest)) := by
  rcases (show b < a ∨ a = b ∨ a < b by omega) with h | h | h
  · refine lv_lcmpG C.1.1 C.1.2.1 ((lI_lt hb ha).mpr h) hd1 ?_
    exact z_if_gt (a := 1) C ⟨by decide, by decide⟩ hd2 ht (fun q => kt (by omega)) (fun q => kf (by omega))
  · refine lv_lcmpE C.1.1 C.1.2.1 (by rw [h]) hd1 ?_
    exact z_if_gt (a := 0) C ⟨by decide, by decide⟩ hd2 ht (fun q => kt (by omega)) (fun q => kf (by omega))
  · refine lv_lcmpL C.1.1 C.1.2.1 (fun q => by have := (lI_lt hb ha).mp q; omega) (fun q => by have := lI_inj ha hb q; omega) hd1 ?_
    exact z_if_gt (a := -1) C ⟨by decide, by decide⟩ hd2 ht (fun q => kt (by omega)) (fun q => kf (by omega))
theorem z_lc_le (C : zC p s m args c cc nL own D dA) {a b : Int} (ha : lR a) (hb : lR b) {off : Int} {tgt : Nat} (hd1 : decode cc pc = .ok (.lcmp, 1)) (hd2 : decode cc (pc + 1) = .ok (.ifCond .le off, 3)) (ht : ((pc + 1 : Nat) : Int) + off = (tgt : Int))
    (kt : a ≤ b → W p l e R s m args below meth c H locs cells slots Q (F0 m tgt ls rest)) (kf : b < a → W p l e R s m args below meth c H locs cells slots Q (F0 m (pc + 4) ls rest)) : W p l e R s m args below meth c H locs cells slots Q (F0 m pc ls (.long (lI b) :: .long (lI a) :: rest)) := by
  rcases (show b < a ∨ a = b ∨ a < b by omega) with h | h | h
  · refine lv_lcmpG C.1.1 C.1.2.1 ((lI_lt hb ha).mpr h) hd1 ?_
    exact z_if_le (a := 1) C ⟨by decide, by decide⟩ hd2 ht (fun q => kt (by omega)) (fun q => kf (by omega))
  · refine lv_lcmpE C.1.1 C.1.2.1 (by rw [h]) hd1 ?_
    exact z_if_le (a := 0) C ⟨by decide, by decide⟩ hd2 ht (fun q => kt (by omega)) (fun q => kf (by omega))
  · refine lv_lcmpL C.1.1 C.1.2.1 (fun q => by have := (lI_lt hb ha).mp q; omega) (fun q => by have := lI_inj ha hb q; omega) hd1 ?_
    exact z_if_le (a := -1) C ⟨by decide, by decide⟩ hd2 ht (fun q => kt (by omega)) (fun q => kf (by omega))
end ZR4
