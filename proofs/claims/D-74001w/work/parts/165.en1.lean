/-! Energies: many, manyOf (printed by tools/s_en1.py) -/
/-- Levels in a pool -/
def lvE (ge : Nat → Int) (gf gm gw gt : Nat → Nat) (y : Nat) : va_E := .inr (10, [.int (zI (ge y)), .int (zI (gf y : Int)), .int (zI (gm y : Int)), .int (zI (gw y : Int)), .int (zI (gt y : Int))])
/-- the level of an energy -/
def lvO (bf : Nat → Option Nat) (en : Int) : Option Nat := if -144 ≤ en ∧ en ≤ 144 then bf (en + 144).toNat else none
def lvM (bf : Nat → Option Nat) (gm : Nat → Nat) (en : Int) : Int := match lvO bf en with | none => 0 | some y => (gm y : Int)

set_option maxHeartbeats 600000 in
set_option maxRecDepth 100000 in
theorem k_X5_many (l : Launch) (D : va_G) (dA : Nat → ClassId) (a qm : Nat) (y1 y2 y3 y4 y5 y6 : Value) (lst : Int) (root : Option Nat) (sz mc : Int) : zM l yX5_many cX5_many 1 (some .int) (zRm 1 20) D dA [.ref (a)] [(a, .inr (5, [y1, y2, y3, .ref (qm), y4, y5, .int (zI (lst)), y6])), (qm, .inr (13, [.null, .null, .null, va_rf (root), .int (zI (sz)), .int (zI (mc)), .null, .null, .null]))] (some (.int (zI (sz)))) := by
  refine zM.of (by decide +kernel) rfl ?_
  intro pp ee ss mm args below meth cd Q C hr hlk hQ hP ls hl
  have hx := C.1.1
  have hb := C.1.2.1
  have hl : lv_has ls 1 [(0, .ref (a))] := hl
  refine lv_aload_n hx hb dX5_many_0 rfl (lv_at hl 0 rfl) ?_
  refine z_get C hP 0 rfl rfl in_X5 3 (by decide) q418 rfl dX5_many_1 ?_
  refine z_cV (n := 0) (As := []) (rest := []) C hP (k_J4_size l D dA (qm) (root) (sz) (mc)) (lw_V q1411 q1360 q2386 q118 q1361) (by decide +kernel) rfl ⟨Nat.le_of_ble_eq_true rfl, Nat.le_of_ble_eq_true rfl⟩ hl.1 (hP.sub [1] rfl) 1 rfl rfl rfl (Nat.le_of_ble_eq_true rfl) dX5_many_4 (Nat.zero_le _) (Nat.zero_le _) ?_
  exact z_iret C hlk hr hQ (by first | rfl | omega) dX5_many_7

set_option maxHeartbeats 600000 in
set_option maxRecDepth 100000 in
theorem k_X5_manyOf (l : Launch) (D : va_G) (dA : Nat → ClassId) (a qb : Nat) (y1 y2 y3 y4 y5 y6 : Value) (lst : Int) (bf : Nat → Option Nat) (LL : List Nat) (ge : Nat → Int) (gf gm gw gt : Nat → Nat) (en : Int) (h1 : zR en) (hbL : ∀ k y, bf k = some y → y ∈ LL) : zM l yX5_manyOf cX5_manyOf 3 (some .int) (zRm 1 22) D dA [.ref (a), .int (zI (en))] ([(a, .inr (5, [y1, y2, .ref (qb), y3, y4, y5, .int (zI (lst)), y6])), (qb, .inl (dA 5, 289, .inr (.inr (.inr (.inr (bf))))))] ++ va_pl LL (lvE ge gf gm gw gt)) (some (.int (zI (lvM bf gm en)))) := by
  refine zM.of (by decide +kernel) rfl ?_
  intro pp ee ss mm args below meth cd Q C hr hlk hQ hP ls hl
  have hx := C.1.1
  have hb := C.1.2.1
  have hl : lv_has ls 3 [(0, .ref (a)), (1, .int (zI (en)))] := hl
  refine lv_iload_n hx hb dX5_manyOf_0 rfl (lv_at hl 1 rfl) ?_
  refine z_sipush C dX5_manyOf_1 rfl ?_
  refine z_sipush C dX5_manyOf_4 rfl ?_
  refine z_cSN (n := 3) (As := [.int (zI (en)), .int (zI (-144)), .int (zI 144)]) (rest := []) C (k_X0_isIn l D dA (en) ((-144)) (144) (by first | with_reducible assumption | omega | with_reducible rfl) (by first | with_reducible assumption | omega | with_reducible rfl) (by first | with_reducible assumption | omega | with_reducible rfl)) (List.mem_of_getElem? (i := 4) rfl) q740 q108 q739 (by decide +kernel) rfl ⟨Nat.le_of_ble_eq_true rfl, Nat.le_of_ble_eq_true rfl⟩ hl.1 (hP.sub [] rfl) rfl (Nat.le_of_ble_eq_true rfl) dX5_manyOf_7 (Nat.zero_le _) (Nat.zero_le _) ?_
  have J27 : ∀ (ov : Option Nat), (ov = lvO bf en) → ∀ ls : Array Slot, lv_has ls 3 [(0, .ref (a)), (1, .int (zI (en)))] → W pp l ee (zRm 1 22) ss mm args below meth cd ss.heap [] 0 0 Q (F0 mm 27 ls [va_rf (ov)]) := by
    intro ov hov ls hl
    refine z_ostore_n (lv' := [(2, va_rf (ov)), (0, .ref (a)), (1, .int (zI (en)))]) hx hb dX5_manyOf_27 rfl hl (by decide) rfl (fun ls hl => ?_)
    refine z_oload_n hx hb dX5_manyOf_28 rfl (lv_at hl 0 rfl) ?_
    refine z_ifnonnull (tgt := 36) C dX5_manyOf_29 (by decide) (fun c_29 => ?_) (fun c_29 => ?_)
    · obtain ⟨y_29_1, hy_29_1⟩ := Option.ne_none_iff_exists'.mp c_29
      rw [hy_29_1] at hl
      have hy9 := hy_29_1
      have hm9 : y_29_1 ∈ LL := by first | (unfold lvO at hov; split at hov <;> first | exact hbL _ _ (hov.symm.trans hy9) | (rw [hy9] at hov; cases hov))
      refine lv_aload_n hx hb dX5_manyOf_36 rfl (lv_at hl 0 rfl) ?_
      refine z_getM C hP (x := y_29_1) (ci := 10) (fs := [.int (zI (ge y_29_1)), .int (zI (gf y_29_1 : Int)), .int (zI (gm y_29_1 : Int)), .int (zI (gw y_29_1 : Int)), .int (zI (gt y_29_1 : Int))]) (List.mem_append_right _ (List.mem_map.mpr ⟨y_29_1, hm9, rfl⟩)) rfl in_X10 2 (by decide) q1007 rfl dX5_manyOf_37 ?_
      exact z_iret C hlk hr hQ (by unfold lvM; rw [← hov, hy9]) dX5_manyOf_40
    · rw [c_29] at hl
      have hy9 := c_29
      refine z_iconst C dX5_manyOf_32 ?_
      refine lv_goto (tgt := 40) hx hb dX5_manyOf_33 (by decide) ?_
      exact z_iret C hlk hr hQ (by unfold lvM; rw [← hov, hy9]) dX5_manyOf_40
  refine z_if_eqB (tgt := 26) C dX5_manyOf_10 (by decide) (fun c_10 => ?_) (fun c_10 => ?_)
  · have c_10 := of_decide_eq_false c_10
    refine lv_null C.1.1 C.1.2.1 dX5_manyOf_26 ?_
    exact J27 (none) (by unfold lvO; first | (rw [if_pos (by simpa using c_10)]; done) | (rw [if_neg (by simpa using c_10)]; done) | (rw [if_pos (by simpa using c_10)]) | (rw [if_neg (by simpa using c_10)])) ls (lv_sub hl [0, 1] rfl)
  · have c_10 := of_decide_eq_true c_10
    have c9 : -144 ≤ en ∧ en ≤ 144 := by simpa using c_10
    refine lv_aload_n hx hb dX5_manyOf_13 rfl (lv_at hl 0 rfl) ?_
    refine z_get C hP 0 rfl rfl in_X5 2 (by decide) q417 rfl dX5_manyOf_14 ?_
    refine lv_iload_n hx hb dX5_manyOf_17 rfl (lv_at hl 1 rfl) ?_
    refine z_sipush C dX5_manyOf_18 rfl ?_
    refine z_iadd C dX5_manyOf_21 ?_
    refine z_aaldW C hP 1 5 rfl rfl ((en + 144).toNat) (by omega) (by omega) (by first | decide | omega) dX5_manyOf_22 ?_
    refine lv_goto (tgt := 27) hx hb dX5_manyOf_23 (by decide) ?_
    exact J27 (bf ((en + 144).toNat)) (by unfold lvO; first | (rw [if_pos (by simpa using c_10)]; done) | (rw [if_neg (by simpa using c_10)]; done) | (rw [if_pos (by simpa using c_10)]) | (rw [if_neg (by simpa using c_10)])) ls (lv_sub hl [0, 1] rfl)
