/-! TreeMap: comparison, entries (printed by tools/s_tm4.py) -/
set_option maxHeartbeats 600000 in
set_option maxRecDepth 100000 in
theorem k_J18_init (l : Launch) (D : va_G) (dA : Nat → ClassId) (a k : Nat) (v p : Option Nat) : zG (S := Unit) l yJ18_init cJ18_init 4 (none) (zRmW 1 20 0 0) D dA [.ref (a), .ref (k), va_rf (v), va_rf (p)] [(a, .inr (14, [.null, .null, .null, .null, .null, .int (zB (false))]))] (fun _ : Unit => none) (fun _ : Unit => True) (fun _ : Unit => [(a, .inr (14, [.ref (k), va_rf (v), .null, .null, va_rf (p), .int (zB (true))]))]) := by
  refine zG.of (by decide +kernel) (by cases v <;> cases p <;> rfl) ?_
  intro pp ee ss mm args below meth cd Q A C hr hlk hQ hA hin H locs hP hD hS ls hl
  have hx := C.1.1
  have hb := C.1.2.1
  have hl : lv_has ls 4 [(0, .ref (a)), (1, .ref (k)), (2, va_rf (v)), (3, va_rf (p))] := (by cases v <;> cases p <;> exact hl)
  refine lv_aload_n hx hb dJ18_init_0 rfl (lv_at hl 0 rfl) ?_
  refine z_obj C q1279 hl.1 (Nat.le_of_ble_eq_true rfl) (Nat.le_of_ble_eq_true rfl) dJ18_init_1 ?_
  refine lv_aload_n hx hb dJ18_init_4 rfl (lv_at hl 0 rfl) ?_
  refine z_iconst C dJ18_init_5 ?_
  refine z_put C hP hD hS 0 rfl rfl in_J18 tyJ18_ok nmJ18 5 (by decide) q1288 rfl (v := .int (zB (true))) (zB_nar _) rfl (Nat.le_of_ble_eq_true rfl) (ws' := [(a, .inr (14, [.null, .null, .null, .null, .null, .int (zB (true))]))]) rfl dJ18_init_6 (fun H locs hP hD hS => ?_)
  refine lv_aload_n hx hb dJ18_init_9 rfl (lv_at hl 0 rfl) ?_
  refine lv_aload_n hx hb dJ18_init_10 rfl (lv_at hl 1 rfl) ?_
  refine z_put C hP hD hS 0 rfl rfl in_J18 tyJ18_ok nmJ18 0 (by decide) q1280 rfl (v := .ref (k)) rfl rfl (Nat.le_of_ble_eq_true rfl) (ws' := [(a, .inr (14, [.ref (k), .null, .null, .null, .null, .int (zB (true))]))]) rfl dJ18_init_11 (fun H locs hP hD hS => ?_)
  refine lv_aload_n hx hb dJ18_init_14 rfl (lv_at hl 0 rfl) ?_
  refine z_oload_n hx hb dJ18_init_15 rfl (lv_at hl 2 rfl) ?_
  refine z_put C hP hD hS 0 rfl rfl in_J18 tyJ18_ok nmJ18 1 (by decide) q1282 rfl (v := va_rf (v)) (by cases v <;> rfl) (by cases v <;> rfl) (Nat.le_of_ble_eq_true rfl) (ws' := [(a, .inr (14, [.ref (k), va_rf (v), .null, .null, .null, .int (zB (true))]))]) rfl dJ18_init_16 (fun H locs hP hD hS => ?_)
  refine lv_aload_n hx hb dJ18_init_19 rfl (lv_at hl 0 rfl) ?_
  refine z_oload_n hx hb dJ18_init_20 rfl (lv_at hl 3 rfl) ?_
  refine z_put C hP hD hS 0 rfl rfl in_J18 tyJ18_ok nmJ18 4 (by decide) q1286 rfl (v := va_rf (p)) (by cases p <;> rfl) (by cases p <;> rfl) (Nat.le_of_ble_eq_true rfl) (ws' := [(a, .inr (14, [.ref (k), va_rf (v), .null, .null, va_rf (p), .int (zB (true))]))]) rfl dJ18_init_21 (fun H locs hP hD hS => ?_)
  exact z_vretG C hlk hr hQ () rfl trivial (hP.sub [0] rfl) (hD.sub [0] (by decide) rfl) hS (Nat.le_of_ble_eq_true rfl) (Nat.le_of_ble_eq_true rfl) dJ18_init_24

set_option maxHeartbeats 600000 in
set_option maxRecDepth 100000 in
theorem k_J4_compare (l : Launch) (D : va_G) (dA : Nat → ClassId) (en : Nat → Nat → Nat) (a x y : Nat) (root : Option Nat) (sz mc v w : Int) (hv : -2147483648 ≤ v ∧ v ≤ 2147483647) (hw : -2147483648 ≤ w ∧ w ≤ 2147483647) : zN l yJ4_compare cJ4_compare 3 (some .int) (zRm 3 63) en ([(x, v), (y, w)], []) D dA [.ref (a), .ref (x), .ref (y)] [(a, .inr (13, [.null, .null, .null, va_rf (root), .int (zI (sz)), .int (zI (mc)), .null, .null, .null]))] (some (.int (zI (if v < w then -1 else if v = w then 0 else 1)))) := by
  refine zN.of (by decide +kernel) rfl ?_
  intro pp ee ss mm args below meth cd Q C hr hlk hQ hV hP ls hl
  have hx := C.1.1
  have hb := C.1.2.1
  have hl : lv_has ls 3 [(0, .ref (a)), (1, .ref (x)), (2, .ref (y))] := hl
  refine lv_aload_n hx hb dJ4_compare_0 rfl (lv_at hl 0 rfl) ?_
  refine z_get C hP 0 rfl rfl in_J4 2 (by decide) q391 rfl dJ4_compare_1 ?_
  refine lv_ifnonnullN hx hb dJ4_compare_4 ?_
  refine lv_aload_n hx hb dJ4_compare_7 rfl (lv_at hl 1 rfl) ?_
  refine z_castY C (List.mem_of_getElem? (i := 1) rfl) (hV.2.icell List.mem_cons_self) q1058 dJ4_compare_8 ?_
  refine lv_aload_n hx hb dJ4_compare_11 rfl (lv_at hl 2 rfl) ?_
  refine z_nF (n := 1) (As := [.ref (y)]) (rest := []) (x := yCmpTo) C hV (k_J14_compareTo l D dA en (x) (y) (v) (w) (by first | with_reducible assumption | omega | with_reducible rfl) (by first | with_reducible assumption | omega | with_reducible rfl)) q1060 q1075 q1077 q133 q1079 (List.mem_of_getElem? (i := 1) rfl) 17 rfl (by decide +kernel) rfl ⟨Nat.le_of_ble_eq_true rfl, Nat.le_of_ble_eq_true rfl⟩ hl.1 (hP.sub [] rfl) (hV.2.icell List.mem_cons_self) rfl (Nat.le_of_ble_eq_true rfl) dJ4_compare_12 (Nat.zero_le _) (Nat.zero_le _) ?_
  refine lv_goto (tgt := 31) hx hb dJ4_compare_17 (by decide) ?_
  exact z_iret C hlk hr hQ (by first | rfl | omega) dJ4_compare_31
