/-! ROWS over zI, zB, lI: an instruction a row (printed by tools/mkrows.py) -/
set_option maxRecDepth 100000
section ZR
variable {p : Program} {l : Launch} {e : Env} {R : Room} {s : State} {m : MethodId} {args : Array Value} {below : List Frame} {meth : Method} {c : Code} {H : Heap} {locs : List Loc} {cells slots : Nat} {Q : State → Prop}
variable {cc : ByteArray} {nL : Nat} {own : String} {D : va_G} {dA : Nat → ClassId} {pc : Nat} {ls : Array Slot} {rest st0 : List Value} {A : Nat → Prop} {x : Nat} {ws : va_W} {H0 : Heap}
def i8 (a : Int) : Int := (a + 128) % 256 - 128
theorem i8_b (a : Int) : -128 ≤ i8 a ∧ i8 a ≤ 127 := by unfold i8; omega
theorem i8_eq (a : Int) : (zI a).toInt8.toInt32 = zI (i8 a) := by
  apply Int32.toInt_inj.1
  rw [Int8.toInt_toInt32, Int32.toInt_toInt8, zI_toInt (a := i8 a) ⟨by have := i8_b a; omega, by have := i8_b a; omega⟩]
  show ((Int32.ofInt a).toInt).bmod (2 ^ 8) = _
  rw [Int32.toInt_ofInt, Int.bmod_bmod_of_dvd (by decide), Int.bmod_def]
  unfold i8
  split <;> omega
theorem i16_eq {a : Int} (h : -32768 ≤ a ∧ a ≤ 32767) : (zI a).toInt16.toInt32 = zI a := by
  apply Int32.toInt_inj.1
  rw [Int16.toInt_toInt32, Int32.toInt_toInt16, zI_toInt ⟨by omega, by omega⟩]
  exact Int.bmod_eq_of_le (by show -((65536 : Nat) : Int) / 2 ≤ a; omega) (by show a < (((65536 : Nat) : Int) + 1) / 2; omega)
theorem zI_inc {t n u : Int} (h : t + n = u) : zI t + Int32.ofInt n = zI u := by rw [show Int32.ofInt n = zI n from rfl, zI_add, h]
theorem z_iconst (C : zC p s m args c cc nL own D dA) {n : Int} (hdg : decode cc pc = .ok (.iconst n, 1))
    (k : W p l e R s m args below meth c H locs cells slots Q (F0 m (pc + 1) ls (.int (zI n) :: rest))) : W p l e R s m args below meth c H locs cells slots Q (F0 m pc ls (rest)) := lv_iconst C.1.1 C.1.2.1 hdg rfl k
theorem z_bipush (C : zC p s m args c cc nL own D dA) {n : Int} (hdg : decode cc pc = .ok (.bipush n, 2)) (hv : (Int8.ofInt n).toInt32 = zI n)
    (k : W p l e R s m args below meth c H locs cells slots Q (F0 m (pc + 2) ls (.int (zI n) :: rest))) : W p l e R s m args below meth c H locs cells slots Q (F0 m pc ls (rest)) := lv_bipush C.1.1 C.1.2.1 hdg hv k
theorem z_sipush (C : zC p s m args c cc nL own D dA) {n : Int} (hdg : decode cc pc = .ok (.sipush n, 3)) (hv : (Int16.ofInt n).toInt32 = zI n)
    (k : W p l e R s m args below meth c H locs cells slots Q (F0 m (pc + 3) ls (.int (zI n) :: rest))) : W p l e R s m args below meth c H locs cells slots Q (F0 m pc ls (rest)) := lv_sipush C.1.1 C.1.2.1 hdg hv k
theorem z_ldc (C : zC p s m args c cc nL own D dA) {index : Nat} {v : Int32} (n : Int) (hw : Jvm.Cond.constant own index v ∈ lw_all) (hv : v = zI n) (hdg : decode cc pc = .ok (.ldc index, 2))
    (k : W p l e R s m args below meth c H locs cells slots Q (F0 m (pc + 2) ls (.int (zI n) :: rest))) : W p l e R s m args below meth c H locs cells slots Q (F0 m pc ls (rest)) := lv_ldc C.1.1 C.1.2.1 C.1.2.2.2.1 (C.1.2.2.2.2 _ hw) hdg (by rw [hv]; exact k)
theorem z_ldcw (C : zC p s m args c cc nL own D dA) {index : Nat} {v : Int32} (n : Int) (hw : Jvm.Cond.constant own index v ∈ lw_all) (hv : v = zI n) (hdg : decode cc pc = .ok (.ldc_w index, 3))
    (k : W p l e R s m args below meth c H locs cells slots Q (F0 m (pc + 3) ls (.int (zI n) :: rest))) : W p l e R s m args below meth c H locs cells slots Q (F0 m pc ls (rest)) := lv_ldcw C.1.1 C.1.2.1 C.1.2.2.2.1 (C.1.2.2.2.2 _ hw) hdg (by rw [hv]; exact k)
theorem z_ldc2 (C : zC p s m args c cc nL own D dA) {index : Nat} {v : Int64} (n : Int) (hw : Jvm.Cond.constantLong own index v ∈ lw_all) (hv : v = lI n) (hdg : decode cc pc = .ok (.ldc2_w index, 3))
    (k : W p l e R s m args below meth c H locs cells slots Q (F0 m (pc + 3) ls (.long (lI n) :: rest))) : W p l e R s m args below meth c H locs cells slots Q (F0 m pc ls (rest)) := lv_ldc2 C.1.1 C.1.2.1 C.1.2.2.2.1 (C.1.2.2.2.2 _ hw) hdg (by rw [hv]; exact k)
theorem z_lconst0 (C : zC p s m args c cc nL own D dA) (hdg : decode cc pc = .ok (.lconst 0, 1))
    (k : W p l e R s m args below meth c H locs cells slots Q (F0 m (pc + 1) ls (.long (lI 0) :: rest))) : W p l e R s m args below meth c H locs cells slots Q (F0 m pc ls (rest)) := lv_lconst C.1.1 C.1.2.1 hdg rfl k
theorem z_lconst1 (C : zC p s m args c cc nL own D dA) (hdg : decode cc pc = .ok (.lconst 1, 1))
    (k : W p l e R s m args below meth c H locs cells slots Q (F0 m (pc + 1) ls (.long (lI 1) :: rest))) : W p l e R s m args below meth c H locs cells slots Q (F0 m pc ls (rest)) := lv_lconst C.1.1 C.1.2.1 hdg rfl k
theorem z_iadd (C : zC p s m args c cc nL own D dA) {a b : Int} (hdg : decode cc pc = .ok (.iadd, 1))
    (k : W p l e R s m args below meth c H locs cells slots Q (F0 m (pc + 1) ls (.int (zI (a + b)) :: rest))) : W p l e R s m args below meth c H locs cells slots Q (F0 m pc ls (.int (zI b) :: .int (zI a) :: rest)) := lv_iadd C.1.1 C.1.2.1 hdg (by rw [zI_add]; exact k)
theorem z_isub (C : zC p s m args c cc nL own D dA) {a b : Int} (hdg : decode cc pc = .ok (.isub, 1))
    (k : W p l e R s m args below meth c H locs cells slots Q (F0 m (pc + 1) ls (.int (zI (a - b)) :: rest))) : W p l e R s m args below meth c H locs cells slots Q (F0 m pc ls (.int (zI b) :: .int (zI a) :: rest)) := lv_isub C.1.1 C.1.2.1 hdg (by rw [zI_sub]; exact k)
theorem z_imul (C : zC p s m args c cc nL own D dA) {a b : Int} (hdg : decode cc pc = .ok (.imul, 1))
    (k : W p l e R s m args below meth c H locs cells slots Q (F0 m (pc + 1) ls (.int (zI (a * b)) :: rest))) : W p l e R s m args below meth c H locs cells slots Q (F0 m pc ls (.int (zI b) :: .int (zI a) :: rest)) := lv_imul C.1.1 C.1.2.1 hdg (by rw [zI_mul]; exact k)
theorem z_ineg (C : zC p s m args c cc nL own D dA) {a : Int} (hdg : decode cc pc = .ok (.ineg, 1))
    (k : W p l e R s m args below meth c H locs cells slots Q (F0 m (pc + 1) ls (.int (zI (-a)) :: rest))) : W p l e R s m args below meth c H locs cells slots Q (F0 m pc ls (.int (zI a) :: rest)) := lv_ineg C.1.1 C.1.2.1 hdg (by rw [zI_neg]; exact k)
theorem z_idiv (C : zC p s m args c cc nL own D dA) {a b : Int} (ha : 0 ≤ a ∧ a ≤ 2147483647) (hb : 0 < b ∧ b ≤ 2147483647) (hdg : decode cc pc = .ok (.idiv, 1))
    (k : W p l e R s m args below meth c H locs cells slots Q (F0 m (pc + 1) ls (.int (zI (a / b)) :: rest))) : W p l e R s m args below meth c H locs cells slots Q (F0 m pc ls (.int (zI b) :: .int (zI a) :: rest)) := lv_idiv C.1.1 C.1.2.1 hdg (by rw [zI_0, zI_eq ⟨by omega, by omega⟩ zR_0]; omega) (by rw [zI_div ha hb]; exact k)
theorem z_irem (C : zC p s m args c cc nL own D dA) {a b : Int} (ha : 0 ≤ a ∧ a ≤ 2147483647) (hb : 0 < b ∧ b ≤ 2147483647) (hdg : decode cc pc = .ok (.irem, 1))
    (k : W p l e R s m args below meth c H locs cells slots Q (F0 m (pc + 1) ls (.int (zI (a % b)) :: rest))) : W p l e R s m args below meth c H locs cells slots Q (F0 m pc ls (.int (zI b) :: .int (zI a) :: rest)) := lv_irem C.1.1 C.1.2.1 hdg (by rw [zI_0, zI_eq ⟨by omega, by omega⟩ zR_0]; omega) (by rw [zI_rem ha hb]; exact k)
theorem z_tidiv (C : zC p s m args c cc nL own D dA) {a b : Int} (ha : zR a) (hb : zR b) (hz : b ≠ 0) (ho : ¬ (a = -2147483648 ∧ b = -1)) (hdg : decode cc pc = .ok (.idiv, 1))
    (k : W p l e R s m args below meth c H locs cells slots Q (F0 m (pc + 1) ls (.int (zI (a.tdiv b)) :: rest))) : W p l e R s m args below meth c H locs cells slots Q (F0 m pc ls (.int (zI b) :: .int (zI a) :: rest)) := lv_idiv C.1.1 C.1.2.1 hdg (by rw [zI_0, zI_eq hb zR_0]; exact hz) (by rw [zI_tdiv ha hb ho]; exact k)
theorem z_tirem (C : zC p s m args c cc nL own D dA) {a b : Int} (ha : zR a) (hb : zR b) (hz : b ≠ 0) (ho : ¬ (a = -2147483648 ∧ b = -1)) (hdg : decode cc pc = .ok (.irem, 1))
    (k : W p l e R s m args below meth c H locs cells slots Q (F0 m (pc + 1) ls (.int (zI (a.tmod b)) :: rest))) : W p l e R s m args below meth c H locs cells slots Q (F0 m pc ls (.int (zI b) :: .int (zI a) :: rest)) := lv_irem C.1.1 C.1.2.1 hdg (by rw [zI_0, zI_eq hb zR_0]; exact hz) (by rw [zI_trem ha hb ho]; exact k)
theorem z_iand (C : zC p s m args c cc nL own D dA) {ta tb : Int} (a b : Nat) (ha : ta = (a : Int)) (hb : tb = (b : Int)) (hdg : decode cc pc = .ok (.iand, 1))
    (k : W p l e R s m args below meth c H locs cells slots Q (F0 m (pc + 1) ls (.int (zI ((a &&& b : Nat) : Int)) :: rest))) : W p l e R s m args below meth c H locs cells slots Q (F0 m pc ls (.int (zI tb) :: .int (zI ta) :: rest)) := lv_iand C.1.1 C.1.2.1 hdg (by rw [ha, hb, zI_and]; exact k)
theorem z_ior (C : zC p s m args c cc nL own D dA) {ta tb : Int} (a b : Nat) (ha : ta = (a : Int)) (hb : tb = (b : Int)) (hdg : decode cc pc = .ok (.ior, 1))
    (k : W p l e R s m args below meth c H locs cells slots Q (F0 m (pc + 1) ls (.int (zI ((a ||| b : Nat) : Int)) :: rest))) : W p l e R s m args below meth c H locs cells slots Q (F0 m pc ls (.int (zI tb) :: .int (zI ta) :: rest)) := lv_ior C.1.1 C.1.2.1 hdg (by rw [ha, hb, zI_or]; exact k)
theorem z_ixor (C : zC p s m args c cc nL own D dA) {ta tb : Int} (a b : Nat) (ha : ta = (a : Int)) (hb : tb = (b : Int)) (hdg : decode cc pc = .ok (.ixor, 1))
    (k : W p l e R s m args below meth c H locs cells slots Q (F0 m (pc + 1) ls (.int (zI ((a ^^^ b : Nat) : Int)) :: rest))) : W p l e R s m args below meth c H locs cells slots Q (F0 m pc ls (.int (zI tb) :: .int (zI ta) :: rest)) := lv_ixor C.1.1 C.1.2.1 hdg (by rw [ha, hb, zI_xor]; exact k)
theorem z_imask (C : zC p s m args c cc nL own D dA) {a tb : Int} (n : Nat) (hn : n ≤ 31) (hb : tb = ((2 ^ n - 1 : Nat) : Int)) (hdg : decode cc pc = .ok (.iand, 1))
    (k : W p l e R s m args below meth c H locs cells slots Q (F0 m (pc + 1) ls (.int (zI (a % ((2 ^ n : Nat) : Int))) :: rest))) : W p l e R s m args below meth c H locs cells slots Q (F0 m pc ls (.int (zI tb) :: .int (zI a) :: rest)) := lv_iand C.1.1 C.1.2.1 hdg (by rw [hb, zI_low n hn]; exact k)
theorem z_inot (C : zC p s m args c cc nL own D dA) {a : Int} (hdg : decode cc pc = .ok (.ixor, 1))
    (k : W p l e R s m args below meth c H locs cells slots Q (F0 m (pc + 1) ls (.int (zI (-a - 1)) :: rest))) : W p l e R s m args below meth c H locs cells slots Q (F0 m pc ls (.int (zI (-1)) :: .int (zI a) :: rest)) := lv_ixor C.1.1 C.1.2.1 hdg (by rw [zI_not]; exact k)
theorem z_iandnot (C : zC p s m args c cc nL own D dA) {ta tb : Int} (a b : Nat) (ha : ta = (a : Int)) (hb : tb = -(b : Int) - 1) (hdg : decode cc pc = .ok (.iand, 1))
    (k : W p l e R s m args below meth c H locs cells slots Q (F0 m (pc + 1) ls (.int (zI ((zclr a b : Nat) : Int)) :: rest))) : W p l e R s m args below meth c H locs cells slots Q (F0 m pc ls (.int (zI tb) :: .int (zI ta) :: rest)) := lv_iand C.1.1 C.1.2.1 hdg (by rw [ha, hb, zI_andnot]; exact k)
theorem z_ishl (C : zC p s m args c cc nL own D dA) {a tb : Int} (n : Nat) (hb : tb = (n : Int)) (hn : n < 32) (hdg : decode cc pc = .ok (.ishl, 1))
    (k : W p l e R s m args below meth c H locs cells slots Q (F0 m (pc + 1) ls (.int (zI (a * 2 ^ n)) :: rest))) : W p l e R s m args below meth c H locs cells slots Q (F0 m pc ls (.int (zI tb) :: .int (zI a) :: rest)) := lv_ishl C.1.1 C.1.2.1 hdg (by rw [hb, zI_shl hn]; exact k)
theorem z_ishl1 (C : zC p s m args c cc nL own D dA) {ta tb : Int} (n : Nat) (ha : ta = 1) (hb : tb = (n : Int)) (hn : n < 32) (hdg : decode cc pc = .ok (.ishl, 1))
    (k : W p l e R s m args below meth c H locs cells slots Q (F0 m (pc + 1) ls (.int (zI ((2 ^ n : Nat) : Int)) :: rest))) : W p l e R s m args below meth c H locs cells slots Q (F0 m pc ls (.int (zI tb) :: .int (zI ta) :: rest)) := lv_ishl C.1.1 C.1.2.1 hdg (by rw [ha, hb, zI_shl hn, show (1 : Int) * 2 ^ n = ((2 ^ n : Nat) : Int) by simp]; exact k)
theorem z_ishr (C : zC p s m args c cc nL own D dA) {a tb : Int} (n : Nat) (hb : tb = (n : Int)) (hn : n < 32) (ha : zR a) (hdg : decode cc pc = .ok (.ishr, 1))
    (k : W p l e R s m args below meth c H locs cells slots Q (F0 m (pc + 1) ls (.int (zI (a / 2 ^ n)) :: rest))) : W p l e R s m args below meth c H locs cells slots Q (F0 m pc ls (.int (zI tb) :: .int (zI a) :: rest)) := lv_ishr C.1.1 C.1.2.1 hdg (by rw [hb, zI_shr hn ha]; exact k)
theorem z_ishrN (C : zC p s m args c cc nL own D dA) {ta tb : Int} (a n : Nat) (ha : ta = (a : Int)) (hb : tb = (n : Int)) (hn : n < 32) (hA : a < 2147483648) (hdg : decode cc pc = .ok (.ishr, 1))
    (k : W p l e R s m args below meth c H locs cells slots Q (F0 m (pc + 1) ls (.int (zI ((a >>> n : Nat) : Int)) :: rest))) : W p l e R s m args below meth c H locs cells slots Q (F0 m pc ls (.int (zI tb) :: .int (zI ta) :: rest)) := lv_ishr C.1.1 C.1.2.1 hdg (by rw [ha, hb, zI_shr hn ⟨by omega, by omega⟩, show (a : Int) / 2 ^ n = ((a >>> n : Nat) : Int) by rw [Nat.shiftRight_eq_div_pow]; simp]; exact k)
theorem z_iushr (C : zC p s m args c cc nL own D dA) {ta tb : Int} (a n : Nat) (ha : ta = (a : Int)) (hb : tb = (n : Int)) (hn : n < 32) (hA : a < 2147483648) (hdg : decode cc pc = .ok (.iushr, 1))
    (k : W p l e R s m args below meth c H locs cells slots Q (F0 m (pc + 1) ls (.int (zI ((a / 2 ^ n : Nat) : Int)) :: rest))) : W p l e R s m args below meth c H locs cells slots Q (F0 m pc ls (.int (zI tb) :: .int (zI ta) :: rest)) := lv_iushr C.1.1 C.1.2.1 hdg rfl (by rw [ha, hb, zI_ushr hn hA]; exact k)
theorem z_iadd0 (C : zC p s m args c cc nL own D dA) {t : Int} (hdg : decode cc pc = .ok (.iadd, 1))
    (k : W p l e R s m args below meth c H locs cells slots Q (F0 m (pc + 1) ls (.int (zI t) :: rest))) : W p l e R s m args below meth c H locs cells slots Q (F0 m pc ls (.int (zI t) :: .int (zI 0) :: rest)) := z_iadd C hdg (by rw [Int.zero_add]; exact k)
theorem z_iaddN (C : zC p s m args c cc nL own D dA) {ta tb : Int} (a b : Nat) (ha : ta = (a : Int)) (hb : tb = (b : Int)) (hdg : decode cc pc = .ok (.iadd, 1))
    (k : W p l e R s m args below meth c H locs cells slots Q (F0 m (pc + 1) ls (.int (zI ((a + b : Nat) : Int)) :: rest))) : W p l e R s m args below meth c H locs cells slots Q (F0 m pc ls (.int (zI tb) :: .int (zI ta) :: rest)) := z_iadd C hdg (by rw [ha, hb, ← Int.natCast_add]; exact k)
theorem z_imulN (C : zC p s m args c cc nL own D dA) {ta tb : Int} (a b : Nat) (ha : ta = (a : Int)) (hb : tb = (b : Int)) (hdg : decode cc pc = .ok (.imul, 1))
    (k : W p l e R s m args below meth c H locs cells slots Q (F0 m (pc + 1) ls (.int (zI ((a * b : Nat) : Int)) :: rest))) : W p l e R s m args below meth c H locs cells slots Q (F0 m pc ls (.int (zI tb) :: .int (zI ta) :: rest)) := z_imul C hdg (by rw [ha, hb, ← Int.natCast_mul]; exact k)
theorem z_isubN (C : zC p s m args c cc nL own D dA) {ta tb : Int} (a b : Nat) (ha : ta = (a : Int)) (hb : tb = (b : Int)) (h : b ≤ a) (hdg : decode cc pc = .ok (.isub, 1))
    (k : W p l e R s m args below meth c H locs cells slots Q (F0 m (pc + 1) ls (.int (zI ((a - b : Nat) : Int)) :: rest))) : W p l e R s m args below meth c H locs cells slots Q (F0 m pc ls (.int (zI tb) :: .int (zI ta) :: rest)) := z_isub C hdg (by rw [ha, hb, ← Int.ofNat_sub h]; exact k)
theorem z_idivN (C : zC p s m args c cc nL own D dA) {ta tb : Int} (a b : Nat) (ha : ta = (a : Int)) (hb : tb = (b : Int)) (h1 : a ≤ 2147483647) (h2 : 0 < b ∧ b ≤ 2147483647) (hdg : decode cc pc = .ok (.idiv, 1))
    (k : W p l e R s m args below meth c H locs cells slots Q (F0 m (pc + 1) ls (.int (zI ((a / b : Nat) : Int)) :: rest))) : W p l e R s m args below meth c H locs cells slots Q (F0 m pc ls (.int (zI tb) :: .int (zI ta) :: rest)) := by
  subst ha; subst hb
  exact z_idiv C ⟨by omega, by omega⟩ ⟨by omega, by omega⟩ hdg (by rw [← Int.natCast_ediv]; exact k)
theorem z_iremN (C : zC p s m args c cc nL own D dA) {ta tb : Int} (a b : Nat) (ha : ta = (a : Int)) (hb : tb = (b : Int)) (h1 : a ≤ 2147483647) (h2 : 0 < b ∧ b ≤ 2147483647) (hdg : decode cc pc = .ok (.irem, 1))
    (k : W p l e R s m args below meth c H locs cells slots Q (F0 m (pc + 1) ls (.int (zI ((a % b : Nat) : Int)) :: rest))) : W p l e R s m args below meth c H locs cells slots Q (F0 m pc ls (.int (zI tb) :: .int (zI ta) :: rest)) := by
  subst ha; subst hb
  exact z_irem C ⟨by omega, by omega⟩ ⟨by omega, by omega⟩ hdg (by rw [← Int.natCast_emod]; exact k)
theorem z_ladd (C : zC p s m args c cc nL own D dA) {a b : Int} (hdg : decode cc pc = .ok (.ladd, 1))
    (k : W p l e R s m args below meth c H locs cells slots Q (F0 m (pc + 1) ls (.long (lI (a + b)) :: rest))) : W p l e R s m args below meth c H locs cells slots Q (F0 m pc ls (.long (lI b) :: .long (lI a) :: rest)) := lv_ladd C.1.1 C.1.2.1 hdg (by rw [lI_add]; exact k)
theorem z_lsub (C : zC p s m args c cc nL own D dA) {a b : Int} (hdg : decode cc pc = .ok (.lsub, 1))
    (k : W p l e R s m args below meth c H locs cells slots Q (F0 m (pc + 1) ls (.long (lI (a - b)) :: rest))) : W p l e R s m args below meth c H locs cells slots Q (F0 m pc ls (.long (lI b) :: .long (lI a) :: rest)) := lv_lsub C.1.1 C.1.2.1 hdg (by rw [lI_sub]; exact k)
theorem z_lmul (C : zC p s m args c cc nL own D dA) {a b : Int} (hdg : decode cc pc = .ok (.lmul, 1))
    (k : W p l e R s m args below meth c H locs cells slots Q (F0 m (pc + 1) ls (.long (lI (a * b)) :: rest))) : W p l e R s m args below meth c H locs cells slots Q (F0 m pc ls (.long (lI b) :: .long (lI a) :: rest)) := lv_lmul C.1.1 C.1.2.1 hdg (by rw [lI_mul]; exact k)
theorem z_ldiv (C : zC p s m args c cc nL own D dA) {a b : Int} (ha : 0 ≤ a ∧ a ≤ 9223372036854775807) (hb : 0 < b ∧ b ≤ 9223372036854775807) (hdg : decode cc pc = .ok (.ldiv, 1))
    (k : W p l e R s m args below meth c H locs cells slots Q (F0 m (pc + 1) ls (.long (lI (a / b)) :: rest))) : W p l e R s m args below meth c H locs cells slots Q (F0 m pc ls (.long (lI b) :: .long (lI a) :: rest)) := lv_ldiv C.1.1 C.1.2.1 hdg (fun e => by have := lI_inj (a := b) (b := 0) ⟨by omega, by omega⟩ ⟨by decide, by decide⟩ e; omega) (by rw [lI_div ha hb]; exact k)
theorem z_lrem (C : zC p s m args c cc nL own D dA) {a b : Int} (ha : 0 ≤ a ∧ a ≤ 9223372036854775807) (hb : 0 < b ∧ b ≤ 9223372036854775807) (hdg : decode cc pc = .ok (.lrem, 1))
    (k : W p l e R s m args below meth c H locs cells slots Q (F0 m (pc + 1) ls (.long (lI (a % b)) :: rest))) : W p l e R s m args below meth c H locs cells slots Q (F0 m pc ls (.long (lI b) :: .long (lI a) :: rest)) := lv_lrem C.1.1 C.1.2.1 hdg (fun e => by have := lI_inj (a := b) (b := 0) ⟨by omega, by omega⟩ ⟨by decide, by decide⟩ e; omega) (by rw [lI_rem ha hb]; exact k)
theorem z_i2l (C : zC p s m args c cc nL own D dA) {a : Int} (ha : zR a) (hdg : decode cc pc = .ok (.i2l, 1))
    (k : W p l e R s m args below meth c H locs cells slots Q (F0 m (pc + 1) ls (.long (lI a) :: rest))) : W p l e R s m args below meth c H locs cells slots Q (F0 m pc ls (.int (zI a) :: rest)) := lv_i2l C.1.1 C.1.2.1 hdg (lI_i2l ha) k
theorem z_l2i (C : zC p s m args c cc nL own D dA) {a : Int} (hdg : decode cc pc = .ok (.l2i, 1))
    (k : W p l e R s m args below meth c H locs cells slots Q (F0 m (pc + 1) ls (.int (zI a) :: rest))) : W p l e R s m args below meth c H locs cells slots Q (F0 m pc ls (.long (lI a) :: rest)) := lv_l2i C.1.1 C.1.2.1 hdg (lI_l2i a) k
theorem z_i2b (C : zC p s m args c cc nL own D dA) {a : Int} (hdg : decode cc pc = .ok (.i2b, 1))
    (k : W p l e R s m args below meth c H locs cells slots Q (F0 m (pc + 1) ls (.int (zI (i8 a)) :: rest))) : W p l e R s m args below meth c H locs cells slots Q (F0 m pc ls (.int (zI a) :: rest)) := lv_i2b C.1.1 C.1.2.1 hdg (i8_eq a) k
theorem z_i2s (C : zC p s m args c cc nL own D dA) {a : Int} (ha : -32768 ≤ a ∧ a ≤ 32767) (hdg : decode cc pc = .ok (.i2s, 1))
    (k : W p l e R s m args below meth c H locs cells slots Q (F0 m (pc + 1) ls (.int (zI a) :: rest))) : W p l e R s m args below meth c H locs cells slots Q (F0 m pc ls (.int (zI a) :: rest)) := lv_i2s C.1.1 C.1.2.1 hdg (i16_eq ha) k
theorem z_icmp_eq (C : zC p s m args c cc nL own D dA) {a b : Int} (ha : zR a) (hb : zR b) {off : Int} {tgt : Nat} (hdg : decode cc pc = .ok (.if_icmp .eq off, 3)) (ht : (pc : Int) + off = (tgt : Int))
    (kt : a = b → W p l e R s m args below meth c H locs cells slots Q (F0 m tgt ls rest)) (kf : ¬ a = b → W p l e R s m args below meth c H locs cells slots Q (F0 m (pc + 3) ls rest)) : W p l e R s m args below meth c H locs cells slots Q (F0 m pc ls (.int (zI b) :: .int (zI a) :: rest)) := lv_icmp_eq C.1.1 C.1.2.1 hdg ht (fun h => kt ((zI_eq ha hb).mp h)) (fun h => kf (fun q => h ((zI_eq ha hb).mpr q)))
theorem z_if_eq (C : zC p s m args c cc nL own D dA) {a : Int} (ha : zR a) {off : Int} {tgt : Nat} (hdg : decode cc pc = .ok (.ifCond .eq off, 3)) (ht : (pc : Int) + off = (tgt : Int))
    (kt : a = 0 → W p l e R s m args below meth c H locs cells slots Q (F0 m tgt ls rest)) (kf : ¬ a = 0 → W p l e R s m args below meth c H locs cells slots Q (F0 m (pc + 3) ls rest)) : W p l e R s m args below meth c H locs cells slots Q (F0 m pc ls (.int (zI a) :: rest)) := lv_if_eq C.1.1 C.1.2.1 hdg ht (fun h => kt ((zI_eq ha zR_0).mp h)) (fun h => kf (fun q => h ((zI_eq ha zR_0).mpr q)))
theorem z_icmp_ne (C : zC p s m args c cc nL own D dA) {a b : Int} (ha : zR a) (hb : zR b) {off : Int} {tgt : Nat} (hdg : decode cc pc = .ok (.if_icmp .ne off, 3)) (ht : (pc : Int) + off = (tgt : Int))
    (kt : ¬ a = b → W p l e R s m args below meth c H locs cells slots Q (F0 m tgt ls rest)) (kf : a = b → W p l e R s m args below meth c H locs cells slots Q (F0 m (pc + 3) ls rest)) : W p l e R s m args below meth c H locs cells slots Q (F0 m pc ls (.int (zI b) :: .int (zI a) :: rest)) := lv_icmp_ne C.1.1 C.1.2.1 hdg ht (fun h => kt (fun q => h ((zI_eq ha hb).mpr q))) (fun h => kf ((zI_eq ha hb).mp h))
theorem z_if_ne (C : zC p s m args c cc nL own D dA) {a : Int} (ha : zR a) {off : Int} {tgt : Nat} (hdg : decode cc pc = .ok (.ifCond .ne off, 3)) (ht : (pc : Int) + off = (tgt : Int))
    (kt : ¬ a = 0 → W p l e R s m args below meth c H locs cells slots Q (F0 m tgt ls rest)) (kf : a = 0 → W p l e R s m args below meth c H locs cells slots Q (F0 m (pc + 3) ls rest)) : W p l e R s m args below meth c H locs cells slots Q (F0 m pc ls (.int (zI a) :: rest)) := lv_if_ne C.1.1 C.1.2.1 hdg ht (fun h => kt (fun q => h ((zI_eq ha zR_0).mpr q))) (fun h => kf ((zI_eq ha zR_0).mp h))
theorem z_icmp_lt (C : zC p s m args c cc nL own D dA) {a b : Int} (ha : zR a) (hb : zR b) {off : Int} {tgt : Nat} (hdg : decode cc pc = .ok (.if_icmp .lt off, 3)) (ht : (pc : Int) + off = (tgt : Int))
    (kt : a < b → W p l e R s m args below meth c H locs cells slots Q (F0 m tgt ls rest)) (kf : b ≤ a → W p l e R s m args below meth c H locs cells slots Q (F0 m (pc + 3) ls rest)) : W p l e R s m args below meth c H locs cells slots Q (F0 m pc ls (.int (zI b) :: .int (zI a) :: rest)) := lv_icmp_lt C.1.1 C.1.2.1 hdg ht (fun h => kt ((zI_lt ha hb).mp h)) (fun h => kf (by have q : ¬ (a < b) := fun q => h ((zI_lt ha hb).mpr q); omega))
theorem z_if_lt (C : zC p s m args c cc nL own D dA) {a : Int} (ha : zR a) {off : Int} {tgt : Nat} (hdg : decode cc pc = .ok (.ifCond .lt off, 3)) (ht : (pc : Int) + off = (tgt : Int))
    (kt : a < 0 → W p l e R s m args below meth c H locs cells slots Q (F0 m tgt ls rest)) (kf : 0 ≤ a → W p l e R s m args below meth c H locs cells slots Q (F0 m (pc + 3) ls rest)) : W p l e R s m args below meth c H locs cells slots Q (F0 m pc ls (.int (zI a) :: rest)) := lv_if_lt C.1.1 C.1.2.1 hdg ht (fun h => kt ((zI_lt ha zR_0).mp h)) (fun h => kf (by have q : ¬ (a < 0) := fun q => h ((zI_lt ha zR_0).mpr q); omega))
theorem z_icmp_ge (C : zC p s m args c cc nL own D dA) {a b : Int} (ha : zR a) (hb : zR b) {off : Int} {tgt : Nat} (hdg : decode cc pc = .ok (.if_icmp .ge off, 3)) (ht : (pc : Int) + off = (tgt : Int))
    (kt : b ≤ a → W p l e R s m args below meth c H locs cells slots Q (F0 m tgt ls rest)) (kf : a < b → W p l e R s m args below meth c H locs cells slots Q (F0 m (pc + 3) ls rest)) : W p l e R s m args below meth c H locs cells slots Q (F0 m pc ls (.int (zI b) :: .int (zI a) :: rest)) := lv_icmp_ge C.1.1 C.1.2.1 hdg ht (fun h => kt ((zI_le hb ha).mp h)) (fun h => kf (by have q : ¬ (b ≤ a) := fun q => h ((zI_le hb ha).mpr q); omega))
theorem z_if_ge (C : zC p s m args c cc nL own D dA) {a : Int} (ha : zR a) {off : Int} {tgt : Nat} (hdg : decode cc pc = .ok (.ifCond .ge off, 3)) (ht : (pc : Int) + off = (tgt : Int))
    (kt : 0 ≤ a → W p l e R s m args below meth c H locs cells slots Q (F0 m tgt ls rest)) (kf : a < 0 → W p l e R s m args below meth c H locs cells slots Q (F0 m (pc + 3) ls rest)) : W p l e R s m args below meth c H locs cells slots Q (F0 m pc ls (.int (zI a) :: rest)) := lv_if_ge C.1.1 C.1.2.1 hdg ht (fun h => kt ((zI_le zR_0 ha).mp h)) (fun h => kf (by have q : ¬ (0 ≤ a) := fun q => h ((zI_le zR_0 ha).mpr q); omega))
theorem z_icmp_gt (C : zC p s m args c cc nL own D dA) {a b : Int} (ha : zR a) (hb : zR b) {off : Int} {tgt : Nat} (hdg : decode cc pc = .ok (.if_icmp .gt off, 3)) (ht : (pc : Int) + off = (tgt : Int))
    (kt : b < a → W p l e R s m args below meth c H locs cells slots Q (F0 m tgt ls rest)) (kf : a ≤ b → W p l e R s m args below meth c H locs cells slots Q (F0 m (pc + 3) ls rest)) : W p l e R s m args below meth c H locs cells slots Q (F0 m pc ls (.int (zI b) :: .int (zI a) :: rest)) := lv_icmp_gt C.1.1 C.1.2.1 hdg ht (fun h => kt ((zI_lt hb ha).mp h)) (fun h => kf (by have q : ¬ (b < a) := fun q => h ((zI_lt hb ha).mpr q); omega))
theorem z_if_gt (C : zC p s m args c cc nL own D dA) {a : Int} (ha : zR a) {off : Int} {tgt : Nat} (hdg : decode cc pc = .ok (.ifCond .gt off, 3)) (ht : (pc : Int) + off = (tgt : Int))
    (kt : 0 < a → W p l e R s m args below meth c H locs cells slots Q (F0 m tgt ls rest)) (kf : a ≤ 0 → W p l e R s m args below meth c H locs cells slots Q (F0 m (pc + 3) ls rest)) : W p l e R s m args below meth c H locs cells slots Q (F0 m pc ls (.int (zI a) :: rest)) := lv_if_gt C.1.1 C.1.2.1 hdg ht (fun h => kt ((zI_lt zR_0 ha).mp h)) (fun h => kf (by have q : ¬ (0 < a) := fun q => h ((zI_lt zR_0 ha).mpr q); omega))
theorem z_icmp_le (C : zC p s m args c cc nL own D dA) {a b : Int} (ha : zR a) (hb : zR b) {off : Int} {tgt : Nat} (hdg : decode cc pc = .ok (.if_icmp .le off, 3)) (ht : (pc : Int) + off = (tgt : Int))
    (kt : a ≤ b → W p l e R s m args below meth c H locs cells slots Q (F0 m tgt ls rest)) (kf : b < a → W p l e R s m args below meth c H locs cells slots Q (F0 m (pc + 3) ls rest)) : W p l e R s m args below meth c H locs cells slots Q (F0 m pc ls (.int (zI b) :: .int (zI a) :: rest)) := lv_icmp_le C.1.1 C.1.2.1 hdg ht (fun h => kt ((zI_le ha hb).mp h)) (fun h => kf (by have q : ¬ (a ≤ b) := fun q => h ((zI_le ha hb).mpr q); omega))
theorem z_if_le (C : zC p s m args c cc nL own D dA) {a : Int} (ha : zR a) {off : Int} {tgt : Nat} (hdg : decode cc pc = .ok (.ifCond .le off, 3)) (ht : (pc : Int) + off = (tgt : Int))
    (kt : a ≤ 0 → W p l e R s m args below meth c H locs cells slots Q (F0 m tgt ls rest)) (kf : 0 < a → W p l e R s m args below meth c H locs cells slots Q (F0 m (pc + 3) ls rest)) : W p l e R s m args below meth c H locs cells slots Q (F0 m pc ls (.int (zI a) :: rest)) := lv_if_le C.1.1 C.1.2.1 hdg ht (fun h => kt ((zI_le ha zR_0).mp h)) (fun h => kf (by have q : ¬ (a ≤ 0) := fun q => h ((zI_le ha zR_0).mpr q); omega))
theorem z_if_eqB (C : zC p s m args c cc nL own D dA) {b : Bool} {off : Int} {tgt : Nat} (hdg : decode cc pc = .ok (.ifCond .eq off, 3)) (ht : (pc : Int) + off = (tgt : Int))
    (kt : b = false → W p l e R s m args below meth c H locs cells slots Q (F0 m tgt ls rest)) (kf : b = true → W p l e R s m args below meth c H locs cells slots Q (F0 m (pc + 3) ls rest)) : W p l e R s m args below meth c H locs cells slots Q (F0 m pc ls (.int (zB b) :: rest)) := lv_if_eq C.1.1 C.1.2.1 hdg ht (fun h => kt (by cases b with | false => rfl | true => exact absurd h (by decide))) (fun h => kf (by cases b with | true => rfl | false => exact absurd rfl h))
theorem z_if_neB (C : zC p s m args c cc nL own D dA) {b : Bool} {off : Int} {tgt : Nat} (hdg : decode cc pc = .ok (.ifCond .ne off, 3)) (ht : (pc : Int) + off = (tgt : Int))
    (kt : b = true → W p l e R s m args below meth c H locs cells slots Q (F0 m tgt ls rest)) (kf : b = false → W p l e R s m args below meth c H locs cells slots Q (F0 m (pc + 3) ls rest)) : W p l e R s m args below meth c H locs cells slots Q (F0 m pc ls (.int (zB b) :: rest)) := lv_if_ne C.1.1 C.1.2.1 hdg ht (fun h => kt (by cases b with | true => rfl | false => exact absurd rfl h)) (fun h => kf (by cases b with | false => rfl | true => exact absurd h (by decide)))
theorem z_icmp_eqB (C : zC p s m args c cc nL own D dA) {a b : Bool} {off : Int} {tgt : Nat} (hdg : decode cc pc = .ok (.if_icmp .eq off, 3)) (ht : (pc : Int) + off = (tgt : Int))
    (kt : a = b → W p l e R s m args below meth c H locs cells slots Q (F0 m tgt ls rest)) (kf : ¬ a = b → W p l e R s m args below meth c H locs cells slots Q (F0 m (pc + 3) ls rest)) : W p l e R s m args below meth c H locs cells slots Q (F0 m pc ls (.int (zB b) :: .int (zB a) :: rest)) := lv_icmp_eq C.1.1 C.1.2.1 hdg ht (fun h => kt (by cases a <;> cases b <;> first | rfl | exact absurd h (by decide))) (fun h => kf (fun q => h (by rw [q])))
theorem z_icmp_neB (C : zC p s m args c cc nL own D dA) {a b : Bool} {off : Int} {tgt : Nat} (hdg : decode cc pc = .ok (.if_icmp .ne off, 3)) (ht : (pc : Int) + off = (tgt : Int))
    (kt : ¬ a = b → W p l e R s m args below meth c H locs cells slots Q (F0 m tgt ls rest)) (kf : a = b → W p l e R s m args below meth c H locs cells slots Q (F0 m (pc + 3) ls rest)) : W p l e R s m args below meth c H locs cells slots Q (F0 m pc ls (.int (zB b) :: .int (zB a) :: rest)) := lv_icmp_ne C.1.1 C.1.2.1 hdg ht (fun h => kt (fun q => h (by rw [q]))) (fun h => kf (by cases a <;> cases b <;> first | rfl | exact absurd h (by decide)))
theorem z_get (C : zC p s m args c cc nL own D dA) (hP : va_P D vwCl ws H) (q0 : Nat) {ci : Nat} {fs : List Value} (he : ws[q0]? = some (x, .inr (ci, fs))) {Cn : String} {T : u_T} {N : Nat} (hc : vwCl[ci]? = some (Cn, T, N)) (hin : ∀ w ∈ u_ws Cn T N, w ∈ lw_all) (k : Nat) (hk : k < N) {index : Nat} (hw : Cond.fieldLink own index (T k).1 (T k).2.1 (T k).2.2.1 ∈ lw_all) {v : Value} (hv : fs[k]? = some v) (hdg : decode cc pc = .ok (.getfield index, 3))
    (kk : W p l e R s m args below meth c H locs cells slots Q (F0 m (pc + 3) ls (v :: rest))) : W p l e R s m args below meth c H locs cells slots Q (F0 m pc ls (.ref x :: rest)) := va_get C.1.1 C.1.2.1 C.1.2.2.2.2 hin C.1.2.2.2.1 C.2.1 hP q0 he hc k hk (C.1.2.2.2.2 _ hw) (fun _ h => h) hv hdg kk
theorem z_iald (C : zC p s m args c cc nL own D dA) (hP : va_P D vwCl ws H) (q0 : Nat) {n : Nat} {f : Nat → Int} (he : ws[q0]? = some (x, .inl (dA 3, n, .inl (fun j => zI (f j))))) {t : Int} (i : Nat) (ht : t = (i : Int)) (hi : i < n) (hn : n ≤ 2147483647) (hdg : decode cc pc = .ok (.iaload, 1))
    (kk : W p l e R s m args below meth c H locs cells slots Q (F0 m (pc + 1) ls (.int (zI (f i)) :: rest))) : W p l e R s m args below meth c H locs cells slots Q (F0 m pc ls (.int (zI t) :: .ref x :: rest)) := by
  subst ht
  refine va_iald C.1.1 C.1.2.1 C.2.1 hP q0 3 he rfl (zI_in hi hn) hdg ?_
  rw [zI_clampN (by omega)]
  exact kk
theorem z_bald (C : zC p s m args c cc nL own D dA) (hP : va_P D vwCl ws H) (q0 : Nat) {n : Nat} {f : Nat → Int} (he : ws[q0]? = some (x, .inl (dA 1, n, .inl (fun j => zI (f j))))) {t : Int} (i : Nat) (ht : t = (i : Int)) (hi : i < n) (hn : n ≤ 2147483647) (hdg : decode cc pc = .ok (.baload, 1))
    (kk : W p l e R s m args below meth c H locs cells slots Q (F0 m (pc + 1) ls (.int (zI (f i)) :: rest))) : W p l e R s m args below meth c H locs cells slots Q (F0 m pc ls (.int (zI t) :: .ref x :: rest)) := by
  subst ht
  refine va_bald C.1.1 C.1.2.1 C.2.1 hP q0 1 he rfl (zI_in hi hn) hdg ?_
  rw [zI_clampN (by omega)]
  exact kk
theorem z_sald (C : zC p s m args c cc nL own D dA) (hP : va_P D vwCl ws H) (q0 : Nat) {n : Nat} {f : Nat → Int} (he : ws[q0]? = some (x, .inl (dA 2, n, .inl (fun j => zI (f j))))) {t : Int} (i : Nat) (ht : t = (i : Int)) (hi : i < n) (hn : n ≤ 2147483647) (hdg : decode cc pc = .ok (.saload, 1))
    (kk : W p l e R s m args below meth c H locs cells slots Q (F0 m (pc + 1) ls (.int (zI (f i)) :: rest))) : W p l e R s m args below meth c H locs cells slots Q (F0 m pc ls (.int (zI t) :: .ref x :: rest)) := by
  subst ht
  refine va_sald C.1.1 C.1.2.1 C.2.1 hP q0 2 he rfl (zI_in hi hn) hdg ?_
  rw [zI_clampN (by omega)]
  exact kk
theorem z_zald (C : zC p s m args c cc nL own D dA) (hP : va_P D vwCl ws H) (q0 : Nat) {n : Nat} {f : Nat → Bool} (he : ws[q0]? = some (x, .inl (dA 0, n, .inl (fun j => zB (f j))))) {t : Int} (i : Nat) (ht : t = (i : Int)) (hi : i < n) (hn : n ≤ 2147483647) (hdg : decode cc pc = .ok (.baload, 1))
    (kk : W p l e R s m args below meth c H locs cells slots Q (F0 m (pc + 1) ls (.int (zB (f i)) :: rest))) : W p l e R s m args below meth c H locs cells slots Q (F0 m pc ls (.int (zI t) :: .ref x :: rest)) := by
  subst ht
  refine va_zald C.1.1 C.1.2.1 C.2.1 hP q0 0 he rfl (zI_in hi hn) hdg ?_
  rw [zI_clampN (by omega)]
  exact kk
theorem z_lald (C : zC p s m args c cc nL own D dA) (hP : va_P D vwCl ws H) (q0 : Nat) {n : Nat} {f : Nat → Int} (he : ws[q0]? = some (x, .inl (dA 4, n, .inr (.inl (fun j => lI (f j)))))) {t : Int} (i : Nat) (ht : t = (i : Int)) (hi : i < n) (hn : n ≤ 2147483647) (hdg : decode cc pc = .ok (.laload, 1))
    (kk : W p l e R s m args below meth c H locs cells slots Q (F0 m (pc + 1) ls (.long (lI (f i)) :: rest))) : W p l e R s m args below meth c H locs cells slots Q (F0 m pc ls (.int (zI t) :: .ref x :: rest)) := by
  subst ht
  refine va_lald C.1.1 C.1.2.1 C.2.1 hP q0 4 he rfl (zI_in hi hn) hdg ?_
  rw [zI_clampN (by omega)]
  exact kk
theorem z_aald (C : zC p s m args c cc nL own D dA) (hP : va_P D vwCl ws H) (q0 t0 : Nat) {Cn : String} {cA : ClassId} {n : Nat} {f : Nat → Option Nat} (he : ws[q0]? = some (x, .inl (cA, n, .inr (.inr (.inr (.inr f)))))) (hty : (zTy dA)[t0]? = some (cA, .object Cn)) {t : Int} (i : Nat) (ht : t = (i : Int)) (hi : i < n) (hn : n ≤ 2147483647) (hdg : decode cc pc = .ok (.aaload, 1))
    (kk : W p l e R s m args below meth c H locs cells slots Q (F0 m (pc + 1) ls (va_rf (f i) :: rest))) : W p l e R s m args below meth c H locs cells slots Q (F0 m pc ls (.int (zI t) :: .ref x :: rest)) := by
  subst ht
  refine va_aldq C.1.1 C.1.2.1 C.2.1 hP q0 t0 he hty (zI_in hi hn) hdg ?_
  rw [zI_clampN (by omega)]
  exact kk
theorem z_alen (C : zC p s m args c cc nL own D dA) (hP : va_P D vwCl ws H) (q0 t0 : Nat) {cA : ClassId} {z : vp_A} (he : ws[q0]? = some (x, .inl (cA, z))) {ty : FieldType} (hty : (zTy dA)[t0]? = some (cA, ty)) {n : Nat} (hz : z.1 = n) (hdg : decode cc pc = .ok (.arraylength, 1))
    (kk : W p l e R s m args below meth c H locs cells slots Q (F0 m (pc + 1) ls (.int (zI (n : Int)) :: rest))) : W p l e R s m args below meth c H locs cells slots Q (F0 m pc ls (.ref x :: rest)) := va_alen C.1.1 C.1.2.1 C.2.1 hP q0 t0 he hty (by rw [hz, zI_nI]; rfl) hdg kk
theorem z_nm {t : Int} (kk : ∀ u : Int, u = t → W p l e R s m args below meth c H locs cells slots Q (F0 m pc ls (.int (zI u) :: rest))) : W p l e R s m args below meth c H locs cells slots Q (F0 m pc ls (.int (zI t) :: rest)) := kk t rfl
theorem z_nmN {t : Nat} (kk : ∀ u : Nat, u = t → W p l e R s m args below meth c H locs cells slots Q (F0 m pc ls (.int (zI (u : Int)) :: rest))) : W p l e R s m args below meth c H locs cells slots Q (F0 m pc ls (.int (zI (t : Int)) :: rest)) := kk t rfl
theorem z_nmB {t : Bool} (kk : ∀ u : Bool, u = t → W p l e R s m args below meth c H locs cells slots Q (F0 m pc ls (.int (zB u) :: rest))) : W p l e R s m args below meth c H locs cells slots Q (F0 m pc ls (.int (zB t) :: rest)) := kk t rfl
theorem z_nmL {t : Int} (kk : ∀ u : Int, u = t → W p l e R s m args below meth c H locs cells slots Q (F0 m pc ls (.long (lI u) :: rest))) : W p l e R s m args below meth c H locs cells slots Q (F0 m pc ls (.long (lI t) :: rest)) := kk t rfl
end ZR
/-- the walk of a pure method -/
abbrev zQ (v : Option Value) : Array Value → State → Outcome → State → Prop := fun _ st oc t => oc = .returned v ∧ t.heap = st.heap
theorem zM.of {l : Launch} {y : MethodName} {bytes : ByteArray} {maxL : Nat} {ret : Option FieldType} {rm : Room} {D : va_G} {dA : Nat → ClassId} {av : List Value} {ws : va_W} {v : Option Value} (hy : plainName y.cls = true) (hl : Nat.ble (lg_sl av).length maxL = true)
    (body : ∀ (p : Program) (e : Env) (s : State) (m : MethodId) (args : Array Value) (below : List Frame) (meth : Method) (c : Code) (Q : State → Prop), zC p s m args c bytes maxL y.cls D dA → meth.sig.returnType = ret → meth.locks = false → Q = MQ below (zQ v) args s 0 0 (fun _ => False) → va_P D vwCl ws s.heap → ∀ ls : Array Slot, lv_has ls maxL (lv_args 0 av) →
      W p l e rm s m args below meth c s.heap [] 0 0 Q (F0 m 0 ls [])) : zM l y bytes maxL ret rm D dA av ws v := by
  refine Met.ofW (cc := bytes) (maxL := maxL) (ret := ret) hy rfl ?_
  intro p e s m args below meth c s₁ B hml hv
  obtain ⟨rfl, hK, hP⟩ := hv
  have hts := atoms_spec (ws := ws_ y bytes maxL ret) B.pre
  have hts : ∀ w ∈ lw_all, w.before _ s = true := fun w h => hts w (List.mem_cons_of_mem _ h)
  rw [lg_entry_eq]
  exact body p e s m _ below meth c _ ⟨⟨B.exec, B.bytes, hml, findClass_of_methodNamed B.named, hts⟩, hK⟩ B.returns B.notSynchronized rfl hP _ (lv_entry av (Nat.le_of_ble_eq_true hl))
section ZE
variable {p : Program} {l : Launch} {e : Env} {R : Room} {s : State} {m : MethodId} {args : Array Value} {below : List Frame} {meth : Method} {c : Code} {Q : State → Prop} {cc : ByteArray} {nL : Nat} {own : String} {D : va_G} {dA : Nat → ClassId} {pc : Nat} {ls : Array Slot}
theorem z_iret (C : zC p s m args c cc nL own D dA) (hlk : meth.locks = false) (hr : meth.sig.returnType = some .int) {a b : Int} (hQ : Q = MQ below (zQ (some (.int (zI b)))) args s 0 0 (fun _ => False)) (h : a = b) (hdg : decode cc pc = .ok (.ireturn, 1)) : W p l e R s m args below meth c s.heap [] 0 0 Q (F0 m pc ls [.int (zI a)]) := by
  subst hQ
  exact W.iret C.1.1 C.1.2.1 hr (fun t ht _ => ⟨by rw [h], ht⟩) (fun _ h => by cases h) hdg hlk
theorem zB_nar (b : Bool) : narrow .boolean (.int (zB b)) = .int (zB b) := by cases b <;> rfl
theorem z_zretB (C : zC p s m args c cc nL own D dA) (hlk : meth.locks = false) (hr : meth.sig.returnType = some .boolean) {a b : Bool} (hQ : Q = MQ below (zQ (some (.int (zB b)))) args s 0 0 (fun _ => False)) (h : a = b) (hdg : decode cc pc = .ok (.ireturn, 1)) : W p l e R s m args below meth c s.heap [] 0 0 Q (F0 m pc ls [.int (zB a)]) := by
  subst hQ
  subst h
  exact W.zret C.1.1 C.1.2.1 hr (zB_nar _) (fun t ht _ => ⟨rfl, ht⟩) (fun _ h => by cases h) hdg hlk
theorem z_zret1 (C : zC p s m args c cc nL own D dA) (hlk : meth.locks = false) (hr : meth.sig.returnType = some .boolean) {b : Bool} (hQ : Q = MQ below (zQ (some (.int (zB b)))) args s 0 0 (fun _ => False)) (h : b = true) (hdg : decode cc pc = .ok (.ireturn, 1)) : W p l e R s m args below meth c s.heap [] 0 0 Q (F0 m pc ls [.int (zI 1)]) := by
  subst h
  exact z_zretB (a := true) C hlk hr hQ rfl hdg
theorem z_zret0 (C : zC p s m args c cc nL own D dA) (hlk : meth.locks = false) (hr : meth.sig.returnType = some .boolean) {b : Bool} (hQ : Q = MQ below (zQ (some (.int (zB b)))) args s 0 0 (fun _ => False)) (h : b = false) (hdg : decode cc pc = .ok (.ireturn, 1)) : W p l e R s m args below meth c s.heap [] 0 0 Q (F0 m pc ls [.int (zI 0)]) := by
  subst h
  exact z_zretB (a := false) C hlk hr hQ rfl hdg
theorem z_lret (C : zC p s m args c cc nL own D dA) (hlk : meth.locks = false) (hr : meth.sig.returnType = some .long) {a b : Int} (hQ : Q = MQ below (zQ (some (.long (lI b)))) args s 0 0 (fun _ => False)) (h : a = b) (hdg : decode cc pc = .ok (.lreturn, 1)) : W p l e R s m args below meth c s.heap [] 0 0 Q (F0 m pc ls [.long (lI a)]) := by
  subst hQ
  exact W.lret C.1.1 C.1.2.1 hr (fun t ht _ => ⟨by rw [h], ht⟩) (fun _ h => by cases h) hdg hlk
end ZE
