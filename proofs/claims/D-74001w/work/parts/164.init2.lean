/-! constructors (printed by tools/s_i2.py) -/
set_option maxHeartbeats 600000 in
set_option maxRecDepth 100000 in
theorem k_X6_init (l : Launch) (D : va_G) (dA : Nat → ClassId) (a s0 e0 : Nat) : zG (S := Nat) l yX6_init cX6_init 3 (none) (zRmW 1 20 1 1024) D dA [.ref (a), .ref (s0), .ref (e0)] [(a, .inr (6, [.null, .null, .null]))] (fun u : Nat => none) (fun u : Nat => True) (fun u : Nat => [(a, .inr (6, [.ref (s0), .ref (e0), .ref (u)])), (u, .inl (dA 0, 1024, .inl (fun jz => zB (zb0 jz))))]) := by
  refine zG.of (by decide +kernel) rfl ?_
  intro pp ee ss mm args below meth cd Q A C hr hlk hQ hA hin H locs hP hD hS ls hl
  have hx := C.1.1
  have hb := C.1.2.1
  have hl : lv_has ls 3 [(0, .ref (a)), (1, .ref (s0)), (2, .ref (e0))] := hl
  refine lv_aload_n hx hb dX6_init_0 rfl (lv_at hl 0 rfl) ?_
  refine z_obj C q448 hl.1 (Nat.le_of_ble_eq_true rfl) (Nat.le_of_ble_eq_true rfl) dX6_init_1 ?_
  refine lv_aload_n hx hb dX6_init_4 rfl (lv_at hl 0 rfl) ?_
  refine z_sipush C dX6_init_5 rfl ?_
  refine z_newZ C hP hD hS hA (1024) rfl (Nat.le_of_ble_eq_true rfl) (Nat.le_of_ble_eq_true rfl) (Nat.le_of_ble_eq_true rfl) dX6_init_8 (fun na_1 H hP hD hS => ?_)
  have hP : va_P D vwCl [(a, .inr (6, [.null, .null, .null])), (na_1, .inl (dA 0, 1024, .inl (fun jz => zB (zb0 jz))))] H := hP
  have hD : va_D A [(a, .inr (6, [.null, .null, .null])), (na_1, .inl (dA 0, 1024, .inl (fun jz => zB (zb0 jz))))] := hD
  refine z_putF C hP hD hS 0 rfl rfl in_X6 tyX6_ok nmX6 2 (by decide) q451 rfl hin rfl rfl rfl (Nat.le_of_ble_eq_true rfl) (ws' := [(a, .inr (6, [.null, .null, .ref (na_1)])), (na_1, .inl (dA 0, 1024, .inl (fun jz => zB (zb0 jz))))]) rfl dX6_init_10 (fun H locs hP hD hS => ?_)
  refine lv_aload_n hx hb dX6_init_13 rfl (lv_at hl 0 rfl) ?_
  refine lv_aload_n hx hb dX6_init_14 rfl (lv_at hl 1 rfl) ?_
  refine z_putF C hP hD hS 0 rfl rfl in_X6 tyX6_ok nmX6 0 (by decide) q449 rfl hin rfl rfl rfl (Nat.le_of_ble_eq_true rfl) (ws' := [(a, .inr (6, [.ref (s0), .null, .ref (na_1)])), (na_1, .inl (dA 0, 1024, .inl (fun jz => zB (zb0 jz))))]) rfl dX6_init_15 (fun H locs hP hD hS => ?_)
  refine lv_aload_n hx hb dX6_init_18 rfl (lv_at hl 0 rfl) ?_
  refine lv_aload_n hx hb dX6_init_19 rfl (lv_at hl 2 rfl) ?_
  refine z_putF C hP hD hS 0 rfl rfl in_X6 tyX6_ok nmX6 1 (by decide) q450 rfl hin rfl rfl rfl (Nat.le_of_ble_eq_true rfl) (ws' := [(a, .inr (6, [.ref (s0), .ref (e0), .ref (na_1)])), (na_1, .inl (dA 0, 1024, .inl (fun jz => zB (zb0 jz))))]) rfl dX6_init_20 (fun H locs hP hD hS => ?_)
  exact z_vretG C hlk hr hQ (na_1) rfl trivial (hP.sub [0, 1] rfl) (hD.sub [0, 1] (by decide) rfl) hS (Nat.le_of_ble_eq_true rfl) (Nat.le_of_ble_eq_true rfl) dX6_init_23

set_option maxHeartbeats 600000 in
set_option maxRecDepth 100000 in
theorem k_X8_init (l : Launch) (D : va_G) (dA : Nat → ClassId) (a s0 e0 : Nat) : zG (S := Nat × Nat) l yX8_init cX8_init 3 (none) (zRmW 1 20 2 2048) D dA [.ref (a), .ref (s0), .ref (e0)] [(a, .inr (8, [.null, .null, .null, .null]))] (fun u : Nat × Nat => none) (fun u : Nat × Nat => True) (fun u : Nat × Nat => [(a, .inr (8, [.ref (s0), .ref (e0), .ref (u.1), .ref (u.2)])), (u.1, .inl (dA 0, 1024, .inl (fun jz => zB (zb0 jz)))), (u.2, .inl (dA 4, 1024, .inr (.inl (fun jz => lI (z0 jz)))))]) := by
  refine zG.of (by decide +kernel) rfl ?_
  intro pp ee ss mm args below meth cd Q A C hr hlk hQ hA hin H locs hP hD hS ls hl
  have hx := C.1.1
  have hb := C.1.2.1
  have hl : lv_has ls 3 [(0, .ref (a)), (1, .ref (s0)), (2, .ref (e0))] := hl
  refine lv_aload_n hx hb dX8_init_0 rfl (lv_at hl 0 rfl) ?_
  refine z_obj C q486 hl.1 (Nat.le_of_ble_eq_true rfl) (Nat.le_of_ble_eq_true rfl) dX8_init_1 ?_
  refine lv_aload_n hx hb dX8_init_4 rfl (lv_at hl 0 rfl) ?_
  refine z_sipush C dX8_init_5 rfl ?_
  refine z_newZ C hP hD hS hA (1024) rfl (Nat.le_of_ble_eq_true rfl) (Nat.le_of_ble_eq_true rfl) (Nat.le_of_ble_eq_true rfl) dX8_init_8 (fun na_1 H hP hD hS => ?_)
  have hP : va_P D vwCl [(a, .inr (8, [.null, .null, .null, .null])), (na_1, .inl (dA 0, 1024, .inl (fun jz => zB (zb0 jz))))] H := hP
  have hD : va_D A [(a, .inr (8, [.null, .null, .null, .null])), (na_1, .inl (dA 0, 1024, .inl (fun jz => zB (zb0 jz))))] := hD
  refine z_putF C hP hD hS 0 rfl rfl in_X8 tyX8_ok nmX8 2 (by decide) q489 rfl hin rfl rfl rfl (Nat.le_of_ble_eq_true rfl) (ws' := [(a, .inr (8, [.null, .null, .ref (na_1), .null])), (na_1, .inl (dA 0, 1024, .inl (fun jz => zB (zb0 jz))))]) rfl dX8_init_10 (fun H locs hP hD hS => ?_)
  refine lv_aload_n hx hb dX8_init_13 rfl (lv_at hl 0 rfl) ?_
  refine z_sipush C dX8_init_14 rfl ?_
  refine z_newL C hP hD hS hA (1024) rfl (Nat.le_of_ble_eq_true rfl) (Nat.le_of_ble_eq_true rfl) (Nat.le_of_ble_eq_true rfl) dX8_init_17 (fun na_2 H hP hD hS => ?_)
  have hP : va_P D vwCl [(a, .inr (8, [.null, .null, .ref (na_1), .null])), (na_1, .inl (dA 0, 1024, .inl (fun jz => zB (zb0 jz)))), (na_2, .inl (dA 4, 1024, .inr (.inl (fun jz => lI (z0 jz)))))] H := hP
  have hD : va_D A [(a, .inr (8, [.null, .null, .ref (na_1), .null])), (na_1, .inl (dA 0, 1024, .inl (fun jz => zB (zb0 jz)))), (na_2, .inl (dA 4, 1024, .inr (.inl (fun jz => lI (z0 jz)))))] := hD
  refine z_putF C hP hD hS 0 rfl rfl in_X8 tyX8_ok nmX8 3 (by decide) q490 rfl hin rfl rfl rfl (Nat.le_of_ble_eq_true rfl) (ws' := [(a, .inr (8, [.null, .null, .ref (na_1), .ref (na_2)])), (na_1, .inl (dA 0, 1024, .inl (fun jz => zB (zb0 jz)))), (na_2, .inl (dA 4, 1024, .inr (.inl (fun jz => lI (z0 jz)))))]) rfl dX8_init_19 (fun H locs hP hD hS => ?_)
  refine lv_aload_n hx hb dX8_init_22 rfl (lv_at hl 0 rfl) ?_
  refine lv_aload_n hx hb dX8_init_23 rfl (lv_at hl 1 rfl) ?_
  refine z_putF C hP hD hS 0 rfl rfl in_X8 tyX8_ok nmX8 0 (by decide) q487 rfl hin rfl rfl rfl (Nat.le_of_ble_eq_true rfl) (ws' := [(a, .inr (8, [.ref (s0), .null, .ref (na_1), .ref (na_2)])), (na_1, .inl (dA 0, 1024, .inl (fun jz => zB (zb0 jz)))), (na_2, .inl (dA 4, 1024, .inr (.inl (fun jz => lI (z0 jz)))))]) rfl dX8_init_24 (fun H locs hP hD hS => ?_)
  refine lv_aload_n hx hb dX8_init_27 rfl (lv_at hl 0 rfl) ?_
  refine lv_aload_n hx hb dX8_init_28 rfl (lv_at hl 2 rfl) ?_
  refine z_putF C hP hD hS 0 rfl rfl in_X8 tyX8_ok nmX8 1 (by decide) q488 rfl hin rfl rfl rfl (Nat.le_of_ble_eq_true rfl) (ws' := [(a, .inr (8, [.ref (s0), .ref (e0), .ref (na_1), .ref (na_2)])), (na_1, .inl (dA 0, 1024, .inl (fun jz => zB (zb0 jz)))), (na_2, .inl (dA 4, 1024, .inr (.inl (fun jz => lI (z0 jz)))))]) rfl dX8_init_29 (fun H locs hP hD hS => ?_)
  exact z_vretG C hlk hr hQ ⟨na_1, na_2⟩ rfl trivial (hP.sub [0, 1, 2] rfl) (hD.sub [0, 1, 2] (by decide) rfl) hS (Nat.le_of_ble_eq_true rfl) (Nat.le_of_ble_eq_true rfl) dX8_init_32

set_option maxHeartbeats 600000 in
set_option maxRecDepth 100000 in
theorem k_X5_init (l : Launch) (D : va_G) (dA : Nat → ClassId) (a s0 : Nat) : zG (S := Nat × Nat × Nat × Nat × Nat) l yX5_init cX5_init 2 (none) (zRmW 3 60 5 66143) D dA [.ref (a), .ref (s0)] [(a, .inr (5, [.null, .null, .null, .null, .null, .int (zI 0), .int (zI 0), .null]))] (fun u : Nat × Nat × Nat × Nat × Nat => none) (fun u : Nat × Nat × Nat × Nat × Nat => True) (fun u : Nat × Nat × Nat × Nat × Nat => [(a, .inr (5, [.ref (s0), .ref (u.1), .ref (u.2.1), .ref (u.2.2.2.2), .ref (u.2.2.1), .int (zI 0), .int (zI 0), .ref (u.2.2.2.1)])), (u.1, .inl (dA 2, 65536, .inl (fun jz => zI (z0 jz)))), (u.2.1, .inl (dA 5, 289, .inr (.inr (.inr (.inr (fun _ => none)))))), (u.2.2.1, .inl (dA 3, 33, .inl (fun jz => zI (z0 jz)))), (u.2.2.2.1, .inl (dA 3, 256, .inl (fun jz => zI (z0 jz)))), (u.2.2.2.2, .inr (13, [.null, .null, .null, .null, .int (zI 0), .int (zI 0), .null, .null, .null]))]) := by
  refine zG.of (by decide +kernel) rfl ?_
  intro pp ee ss mm args below meth cd Q A C hr hlk hQ hA hin H locs hP hD hS ls hl
  have hx := C.1.1
  have hb := C.1.2.1
  have hl : lv_has ls 2 [(0, .ref (a)), (1, .ref (s0))] := hl
  refine lv_aload_n hx hb dX5_init_0 rfl (lv_at hl 0 rfl) ?_
  refine z_obj C q378 hl.1 (Nat.le_of_ble_eq_true rfl) (Nat.le_of_ble_eq_true rfl) dX5_init_1 ?_
  refine lv_aload_n hx hb dX5_init_4 rfl (lv_at hl 0 rfl) ?_
  refine z_ldc C (65536) q379 rfl dX5_init_5 ?_
  refine z_newS C hP hD hS hA (65536) rfl (Nat.le_of_ble_eq_true rfl) (Nat.le_of_ble_eq_true rfl) (Nat.le_of_ble_eq_true rfl) dX5_init_7 (fun na_1 H hP hD hS => ?_)
  have hP : va_P D vwCl [(a, .inr (5, [.null, .null, .null, .null, .null, .int (zI 0), .int (zI 0), .null])), (na_1, .inl (dA 2, 65536, .inl (fun jz => zI (z0 jz))))] H := hP
  have hD : va_D A [(a, .inr (5, [.null, .null, .null, .null, .null, .int (zI 0), .int (zI 0), .null])), (na_1, .inl (dA 2, 65536, .inl (fun jz => zI (z0 jz))))] := hD
  refine z_putF C hP hD hS 0 rfl rfl in_X5 tyX5_ok nmX5 1 (by decide) q416 rfl hin rfl rfl rfl (Nat.le_of_ble_eq_true rfl) (ws' := [(a, .inr (5, [.null, .ref (na_1), .null, .null, .null, .int (zI 0), .int (zI 0), .null])), (na_1, .inl (dA 2, 65536, .inl (fun jz => zI (z0 jz))))]) rfl dX5_init_9 (fun H locs hP hD hS => ?_)
  refine lv_aload_n hx hb dX5_init_12 rfl (lv_at hl 0 rfl) ?_
  refine z_sipush C dX5_init_13 rfl ?_
  refine z_newq C hP hD hS hA 5 rfl (by decide) q380 (by decide) (289) rfl (Nat.le_of_ble_eq_true rfl) (Nat.le_of_ble_eq_true rfl) (Nat.le_of_ble_eq_true rfl) dX5_init_16 (fun na_2 H hP hD hS => ?_)
  have hP : va_P D vwCl [(a, .inr (5, [.null, .ref (na_1), .null, .null, .null, .int (zI 0), .int (zI 0), .null])), (na_1, .inl (dA 2, 65536, .inl (fun jz => zI (z0 jz)))), (na_2, .inl (dA 5, 289, .inr (.inr (.inr (.inr (fun _ => none))))))] H := hP
  have hD : va_D A [(a, .inr (5, [.null, .ref (na_1), .null, .null, .null, .int (zI 0), .int (zI 0), .null])), (na_1, .inl (dA 2, 65536, .inl (fun jz => zI (z0 jz)))), (na_2, .inl (dA 5, 289, .inr (.inr (.inr (.inr (fun _ => none))))))] := hD
  refine z_putF C hP hD hS 0 rfl rfl in_X5 tyX5_ok nmX5 2 (by decide) q417 rfl hin rfl rfl rfl (Nat.le_of_ble_eq_true rfl) (ws' := [(a, .inr (5, [.null, .ref (na_1), .ref (na_2), .null, .null, .int (zI 0), .int (zI 0), .null])), (na_1, .inl (dA 2, 65536, .inl (fun jz => zI (z0 jz)))), (na_2, .inl (dA 5, 289, .inr (.inr (.inr (.inr (fun _ => none))))))]) rfl dX5_init_19 (fun H locs hP hD hS => ?_)
  refine lv_aload_n hx hb dX5_init_22 rfl (lv_at hl 0 rfl) ?_
  refine z_new C hP hD hS hA 13 rfl in_J4 tyJ4_ok q382 q383 q118 (fs := [.null, .null, .null, .null, .int (zI 0), .int (zI 0), .null, .null, .null]) (fun j hj => match j, hj with | 0, _ => rfl | 1, _ => rfl | 2, _ => rfl | 3, _ => rfl | 4, _ => rfl | 5, _ => rfl | 6, _ => rfl | 7, _ => rfl | 8, _ => rfl | (z + 9), h => absurd h (by omega)) (Nat.le_of_ble_eq_true rfl) (Nat.le_of_ble_eq_true rfl) dX5_init_23 (fun na_3 H hP hD hS => ?_)
  have hP : va_P D vwCl [(a, .inr (5, [.null, .ref (na_1), .ref (na_2), .null, .null, .int (zI 0), .int (zI 0), .null])), (na_1, .inl (dA 2, 65536, .inl (fun jz => zI (z0 jz)))), (na_2, .inl (dA 5, 289, .inr (.inr (.inr (.inr (fun _ => none)))))), (na_3, .inr (13, [.null, .null, .null, .null, .int (zI 0), .int (zI 0), .null, .null, .null]))] H := hP
  have hD : va_D A [(a, .inr (5, [.null, .ref (na_1), .ref (na_2), .null, .null, .int (zI 0), .int (zI 0), .null])), (na_1, .inl (dA 2, 65536, .inl (fun jz => zI (z0 jz)))), (na_2, .inl (dA 5, 289, .inr (.inr (.inr (.inr (fun _ => none)))))), (na_3, .inr (13, [.null, .null, .null, .null, .int (zI 0), .int (zI 0), .null, .null, .null]))] := hD
  refine lv_dup hx hb dX5_init_26 rfl ?_
  refine z_gI (n := 0) (As := []) (rest := [.ref (na_3), .ref (a)]) (wc := [(na_3, .inr (13, [.null, .null, .null, .null, .int (zI 0), .int (zI 0), .null, .null, .null]))]) (wr := [(a, .inr (5, [.null, .ref (na_1), .ref (na_2), .null, .null, .int (zI 0), .int (zI 0), .null])), (na_1, .inl (dA 2, 65536, .inl (fun jz => zI (z0 jz)))), (na_2, .inl (dA 5, 289, .inr (.inr (.inr (.inr (fun _ => none))))))]) C hP hD hS hA [3] [0, 1, 2] rfl rfl (by decide) (by decide) (by decide) (k_J4_init l D dA (na_3)) q386 q118 q384 q385 rfl (by decide +kernel) rfl ⟨Nat.le_of_ble_eq_true rfl, Nat.le_of_ble_eq_true rfl⟩ hl.1 rfl (Nat.le_of_ble_eq_true rfl) dX5_init_27 (by decide) (by decide) (fun _ H locs hp_27 hP hD hS _ => ?_)
  have hP := hP.sub (ws' := [(a, .inr (5, [.null, .ref (na_1), .ref (na_2), .null, .null, .int (zI 0), .int (zI 0), .null])), (na_1, .inl (dA 2, 65536, .inl (fun jz => zI (z0 jz)))), (na_2, .inl (dA 5, 289, .inr (.inr (.inr (.inr (fun _ => none)))))), (na_3, .inr (13, [.null, .null, .null, .null, .int (zI 0), .int (zI 0), .null, .null, .null]))]) [0, 1, 2, 3] rfl
  have hD := hD.sub (ws' := [(a, .inr (5, [.null, .ref (na_1), .ref (na_2), .null, .null, .int (zI 0), .int (zI 0), .null])), (na_1, .inl (dA 2, 65536, .inl (fun jz => zI (z0 jz)))), (na_2, .inl (dA 5, 289, .inr (.inr (.inr (.inr (fun _ => none)))))), (na_3, .inr (13, [.null, .null, .null, .null, .int (zI 0), .int (zI 0), .null, .null, .null]))]) [0, 1, 2, 3] (by decide) rfl
  refine W.widen (k := 3) (n := 65834) (Nat.le_of_ble_eq_true rfl) (Nat.le_of_ble_eq_true rfl) ?_
  refine z_putF C hP hD hS 0 rfl rfl in_X5 tyX5_ok nmX5 3 (by decide) q418 rfl hin rfl rfl rfl (Nat.le_of_ble_eq_true rfl) (ws' := [(a, .inr (5, [.null, .ref (na_1), .ref (na_2), .ref (na_3), .null, .int (zI 0), .int (zI 0), .null])), (na_1, .inl (dA 2, 65536, .inl (fun jz => zI (z0 jz)))), (na_2, .inl (dA 5, 289, .inr (.inr (.inr (.inr (fun _ => none)))))), (na_3, .inr (13, [.null, .null, .null, .null, .int (zI 0), .int (zI 0), .null, .null, .null]))]) rfl dX5_init_30 (fun H locs hP hD hS => ?_)
  refine lv_aload_n hx hb dX5_init_33 rfl (lv_at hl 0 rfl) ?_
  refine z_bipush C dX5_init_34 rfl ?_
  refine z_newI C hP hD hS hA (33) rfl (Nat.le_of_ble_eq_true rfl) (Nat.le_of_ble_eq_true rfl) (Nat.le_of_ble_eq_true rfl) dX5_init_36 (fun na_4 H hP hD hS => ?_)
  have hP : va_P D vwCl [(a, .inr (5, [.null, .ref (na_1), .ref (na_2), .ref (na_3), .null, .int (zI 0), .int (zI 0), .null])), (na_1, .inl (dA 2, 65536, .inl (fun jz => zI (z0 jz)))), (na_2, .inl (dA 5, 289, .inr (.inr (.inr (.inr (fun _ => none)))))), (na_3, .inr (13, [.null, .null, .null, .null, .int (zI 0), .int (zI 0), .null, .null, .null])), (na_4, .inl (dA 3, 33, .inl (fun jz => zI (z0 jz))))] H := hP
  have hD : va_D A [(a, .inr (5, [.null, .ref (na_1), .ref (na_2), .ref (na_3), .null, .int (zI 0), .int (zI 0), .null])), (na_1, .inl (dA 2, 65536, .inl (fun jz => zI (z0 jz)))), (na_2, .inl (dA 5, 289, .inr (.inr (.inr (.inr (fun _ => none)))))), (na_3, .inr (13, [.null, .null, .null, .null, .int (zI 0), .int (zI 0), .null, .null, .null])), (na_4, .inl (dA 3, 33, .inl (fun jz => zI (z0 jz))))] := hD
  refine z_putF C hP hD hS 0 rfl rfl in_X5 tyX5_ok nmX5 4 (by decide) q419 rfl hin rfl rfl rfl (Nat.le_of_ble_eq_true rfl) (ws' := [(a, .inr (5, [.null, .ref (na_1), .ref (na_2), .ref (na_3), .ref (na_4), .int (zI 0), .int (zI 0), .null])), (na_1, .inl (dA 2, 65536, .inl (fun jz => zI (z0 jz)))), (na_2, .inl (dA 5, 289, .inr (.inr (.inr (.inr (fun _ => none)))))), (na_3, .inr (13, [.null, .null, .null, .null, .int (zI 0), .int (zI 0), .null, .null, .null])), (na_4, .inl (dA 3, 33, .inl (fun jz => zI (z0 jz))))]) rfl dX5_init_38 (fun H locs hP hD hS => ?_)
  refine lv_aload_n hx hb dX5_init_41 rfl (lv_at hl 0 rfl) ?_
  refine z_sipush C dX5_init_42 rfl ?_
  refine z_newI C hP hD hS hA (256) rfl (Nat.le_of_ble_eq_true rfl) (Nat.le_of_ble_eq_true rfl) (Nat.le_of_ble_eq_true rfl) dX5_init_45 (fun na_5 H hP hD hS => ?_)
  have hP : va_P D vwCl [(a, .inr (5, [.null, .ref (na_1), .ref (na_2), .ref (na_3), .ref (na_4), .int (zI 0), .int (zI 0), .null])), (na_1, .inl (dA 2, 65536, .inl (fun jz => zI (z0 jz)))), (na_2, .inl (dA 5, 289, .inr (.inr (.inr (.inr (fun _ => none)))))), (na_3, .inr (13, [.null, .null, .null, .null, .int (zI 0), .int (zI 0), .null, .null, .null])), (na_4, .inl (dA 3, 33, .inl (fun jz => zI (z0 jz)))), (na_5, .inl (dA 3, 256, .inl (fun jz => zI (z0 jz))))] H := hP
  have hD : va_D A [(a, .inr (5, [.null, .ref (na_1), .ref (na_2), .ref (na_3), .ref (na_4), .int (zI 0), .int (zI 0), .null])), (na_1, .inl (dA 2, 65536, .inl (fun jz => zI (z0 jz)))), (na_2, .inl (dA 5, 289, .inr (.inr (.inr (.inr (fun _ => none)))))), (na_3, .inr (13, [.null, .null, .null, .null, .int (zI 0), .int (zI 0), .null, .null, .null])), (na_4, .inl (dA 3, 33, .inl (fun jz => zI (z0 jz)))), (na_5, .inl (dA 3, 256, .inl (fun jz => zI (z0 jz))))] := hD
  refine z_putF C hP hD hS 0 rfl rfl in_X5 tyX5_ok nmX5 7 (by decide) q425 rfl hin rfl rfl rfl (Nat.le_of_ble_eq_true rfl) (ws' := [(a, .inr (5, [.null, .ref (na_1), .ref (na_2), .ref (na_3), .ref (na_4), .int (zI 0), .int (zI 0), .ref (na_5)])), (na_1, .inl (dA 2, 65536, .inl (fun jz => zI (z0 jz)))), (na_2, .inl (dA 5, 289, .inr (.inr (.inr (.inr (fun _ => none)))))), (na_3, .inr (13, [.null, .null, .null, .null, .int (zI 0), .int (zI 0), .null, .null, .null])), (na_4, .inl (dA 3, 33, .inl (fun jz => zI (z0 jz)))), (na_5, .inl (dA 3, 256, .inl (fun jz => zI (z0 jz))))]) rfl dX5_init_47 (fun H locs hP hD hS => ?_)
  refine lv_aload_n hx hb dX5_init_50 rfl (lv_at hl 0 rfl) ?_
  refine lv_aload_n hx hb dX5_init_51 rfl (lv_at hl 1 rfl) ?_
  refine z_putF C hP hD hS 0 rfl rfl in_X5 tyX5_ok nmX5 0 (by decide) q415 rfl hin rfl rfl rfl (Nat.le_of_ble_eq_true rfl) (ws' := [(a, .inr (5, [.ref (s0), .ref (na_1), .ref (na_2), .ref (na_3), .ref (na_4), .int (zI 0), .int (zI 0), .ref (na_5)])), (na_1, .inl (dA 2, 65536, .inl (fun jz => zI (z0 jz)))), (na_2, .inl (dA 5, 289, .inr (.inr (.inr (.inr (fun _ => none)))))), (na_3, .inr (13, [.null, .null, .null, .null, .int (zI 0), .int (zI 0), .null, .null, .null])), (na_4, .inl (dA 3, 33, .inl (fun jz => zI (z0 jz)))), (na_5, .inl (dA 3, 256, .inl (fun jz => zI (z0 jz))))]) rfl dX5_init_52 (fun H locs hP hD hS => ?_)
  exact z_vretG C hlk hr hQ ⟨na_1, na_2, na_4, na_5, na_3⟩ rfl trivial (hP.sub [0, 1, 2, 4, 5, 3] rfl) (hD.sub [0, 1, 2, 4, 5, 3] (by decide) rfl) hS (Nat.le_of_ble_eq_true rfl) (Nat.le_of_ble_eq_true rfl) dX5_init_55
