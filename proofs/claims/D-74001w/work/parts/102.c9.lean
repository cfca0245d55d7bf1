theorem sqr_b (w le rg : Nat) (fa fl : Nat → Int) (k : Nat) : -2 ≤ sqr w le rg fa fl k ∧ sqr w le rg fa fl k ≤ 1 := by
  unfold sqr
  repeat' split
  all_goals omega
set_option maxHeartbeats 600000 in
set_option maxRecDepth 100000 in
theorem k_X0_typed (l : Launch) (D : va_G) (dA : Nat → ClassId) (a : Nat) (u0 u2 u3 u4 u5 u6 u7 u8 u9 u10 u11 u12 u13 u14 u15 u16 u17 u18 u19 : Value) (ta qt tp qs qf qo qw mn : Nat) (xw : Value) (tf : Nat → Int) (v : Int) (htp : tp + 4 ≤ 2000) (hv : zR v) : zG (S := Unit) l yX0_typed cX0_typed 3 (none) (zRmW 0 0 0 0) D dA [.ref (a), .int (zI (v))] [(a, .inr (0, [u0, .ref (ta), u2, u3, u4, u5, u6, u7, u8, u9, u10, u11, u12, u13, u14, u15, u16, u17, u18, u19])), (ta, .inr (2, [xw, .ref (qt), .int (zI ((tp : Nat) : Int)), .ref (qs), .ref (qf), .ref (qo), .ref (qw), .int (zI ((mn : Nat) : Int))])), (qt, .inl (dA 1, 2000, .inl (fun jz => zI (tf jz))))] (fun _ : Unit => none) (fun _ : Unit => True) (fun _ : Unit => [(a, .inr (0, [u0, .ref (ta), u2, u3, u4, u5, u6, u7, u8, u9, u10, u11, u12, u13, u14, u15, u16, u17, u18, u19])), (ta, .inr (2, [xw, .ref (qt), .int (zI ((tp + 4 : Nat) : Int)), .ref (qs), .ref (qf), .ref (qo), .ref (qw), .int (zI ((mn : Nat) : Int))])), (qt, .inl (dA 1, 2000, .inl (fun jz => zI ((lay4 tf tp v) jz))))]) := by
  refine zG.of (by decide +kernel) rfl ?_
  intro pp ee ss mm args below meth cd Q A C hr hlk hQ hA hin H locs hP hD hS ls hl
  have hx := C.1.1
  have hb := C.1.2.1
  have hl : lv_has ls 3 [(0, .ref (a)), (1, .int (zI (v)))] := hl
  refine z_bipush C dX0_typed_0 rfl ?_
  refine lv_istore_n (lv' := [(2, .int (zI 24)), (0, .ref (a)), (1, .int (zI (v)))]) hx hb dX0_typed_2 rfl hl (by decide) rfl (fun ls hl => ?_)
  refine lv_iload_n hx hb dX0_typed_3 rfl (lv_at hl 0 rfl) ?_
  refine z_if_lt (tgt := 45) C ⟨by decide, by decide⟩ dX0_typed_4 (by decide) (fun c => absurd c (by decide)) (fun _ => ?_)
  refine lv_aload_n hx hb dX0_typed_7 rfl (lv_at hl 1 rfl) ?_
  refine z_get C hP 0 rfl rfl in_X0 1 (by decide) q526 rfl dX0_typed_8 ?_
  refine z_get C hP 1 rfl rfl in_X2 1 (by decide) q252 rfl dX0_typed_11 ?_
  refine lv_aload_n hx hb dX0_typed_14 rfl (lv_at hl 1 rfl) ?_
  refine z_get C hP 0 rfl rfl in_X0 1 (by decide) q526 rfl dX0_typed_15 ?_
  refine z_get C hP 1 rfl rfl in_X2 2 (by decide) q254 rfl dX0_typed_18 ?_
  refine lv_iload_n hx hb dX0_typed_21 rfl (lv_at hl 2 rfl) ?_
  refine lv_iload_n hx hb dX0_typed_22 rfl (lv_at hl 0 rfl) ?_
  refine z_ishr C (24) rfl (by omega) ⟨by omega, by omega⟩ dX0_typed_23 ?_
  refine z_i2b C dX0_typed_24 ?_
  have hi8 := i8_b ((v) / 2 ^ 24)
  refine z_bast C hP hD hS 2 rfl (tp) rfl (by omega) (by decide) (v := (i8 ((v) / 2 ^ 24))) ⟨by omega, by omega⟩ (ws' := [(a, .inr (0, [u0, .ref (ta), u2, u3, u4, u5, u6, u7, u8, u9, u10, u11, u12, u13, u14, u15, u16, u17, u18, u19])), (ta, .inr (2, [xw, .ref (qt), .int (zI ((tp : Nat) : Int)), .ref (qs), .ref (qf), .ref (qo), .ref (qw), .int (zI ((mn : Nat) : Int))])), (qt, .inl (dA 1, 2000, .inl (fun jz => zI ((va_up tf tp (i8 ((v) / 2 ^ 24))) jz))))]) rfl dX0_typed_25 (fun H locs hP hD hS => ?_)
  refine lv_aload_n hx hb dX0_typed_26 rfl (lv_at hl 1 rfl) ?_
  refine z_get C hP 0 rfl rfl in_X0 1 (by decide) q526 rfl dX0_typed_27 ?_
  refine lv_dup hx hb dX0_typed_30 rfl ?_
  refine z_get C hP 1 rfl rfl in_X2 2 (by decide) q254 rfl dX0_typed_31 ?_
  refine z_iconst C dX0_typed_34 ?_
  refine z_iaddN C (tp) (1) rfl rfl dX0_typed_35 ?_
  refine z_put C hP hD hS 1 rfl rfl in_X2 tyX2_ok nmX2 2 (by decide) q254 rfl (v := .int (zI (((tp + 1) : Nat) : Int))) rfl rfl (Nat.le_of_ble_eq_true rfl) (ws' := [(a, .inr (0, [u0, .ref (ta), u2, u3, u4, u5, u6, u7, u8, u9, u10, u11, u12, u13, u14, u15, u16, u17, u18, u19])), (ta, .inr (2, [xw, .ref (qt), .int (zI (((tp + 1) : Nat) : Int)), .ref (qs), .ref (qf), .ref (qo), .ref (qw), .int (zI ((mn : Nat) : Int))])), (qt, .inl (dA 1, 2000, .inl (fun jz => zI ((va_up tf tp (i8 ((v) / 2 ^ 24))) jz))))]) rfl dX0_typed_36 (fun H locs hP hD hS => ?_)
  refine lv_iinc (v := zI 16) (lv' := [(2, .int (zI 16)), (0, .ref (a)), (1, .int (zI (v)))]) hx hb dX0_typed_39 hl (k := 0) rfl (zI_inc (by omega)) (by decide) rfl (fun ls hl => ?_)
  refine lv_goto (tgt := 3) hx hb dX0_typed_42 (by decide) ?_
  refine lv_iload_n hx hb dX0_typed_3 rfl (lv_at hl 0 rfl) ?_
  refine z_if_lt (tgt := 45) C ⟨by decide, by decide⟩ dX0_typed_4 (by decide) (fun c => absurd c (by decide)) (fun _ => ?_)
  refine lv_aload_n hx hb dX0_typed_7 rfl (lv_at hl 1 rfl) ?_
  refine z_get C hP 0 rfl rfl in_X0 1 (by decide) q526 rfl dX0_typed_8 ?_
  refine z_get C hP 1 rfl rfl in_X2 1 (by decide) q252 rfl dX0_typed_11 ?_
  refine lv_aload_n hx hb dX0_typed_14 rfl (lv_at hl 1 rfl) ?_
  refine z_get C hP 0 rfl rfl in_X0 1 (by decide) q526 rfl dX0_typed_15 ?_
  refine z_get C hP 1 rfl rfl in_X2 2 (by decide) q254 rfl dX0_typed_18 ?_
  refine lv_iload_n hx hb dX0_typed_21 rfl (lv_at hl 2 rfl) ?_
  refine lv_iload_n hx hb dX0_typed_22 rfl (lv_at hl 0 rfl) ?_
  refine z_ishr C (16) rfl (by omega) ⟨by omega, by omega⟩ dX0_typed_23 ?_
  refine z_i2b C dX0_typed_24 ?_
  have hi8 := i8_b ((v) / 2 ^ 16)
  refine z_bast C hP hD hS 2 rfl ((tp + 1)) rfl (by omega) (by decide) (v := (i8 ((v) / 2 ^ 16))) ⟨by omega, by omega⟩ (ws' := [(a, .inr (0, [u0, .ref (ta), u2, u3, u4, u5, u6, u7, u8, u9, u10, u11, u12, u13, u14, u15, u16, u17, u18, u19])), (ta, .inr (2, [xw, .ref (qt), .int (zI (((tp + 1) : Nat) : Int)), .ref (qs), .ref (qf), .ref (qo), .ref (qw), .int (zI ((mn : Nat) : Int))])), (qt, .inl (dA 1, 2000, .inl (fun jz => zI ((va_up (va_up tf tp (i8 ((v) / 2 ^ 24))) (tp + 1) (i8 ((v) / 2 ^ 16))) jz))))]) rfl dX0_typed_25 (fun H locs hP hD hS => ?_)
  refine lv_aload_n hx hb dX0_typed_26 rfl (lv_at hl 1 rfl) ?_
  refine z_get C hP 0 rfl rfl in_X0 1 (by decide) q526 rfl dX0_typed_27 ?_
  refine lv_dup hx hb dX0_typed_30 rfl ?_
  refine z_get C hP 1 rfl rfl in_X2 2 (by decide) q254 rfl dX0_typed_31 ?_
  refine z_iconst C dX0_typed_34 ?_
  refine z_iaddN C ((tp + 1)) (1) rfl rfl dX0_typed_35 ?_
  refine z_put C hP hD hS 1 rfl rfl in_X2 tyX2_ok nmX2 2 (by decide) q254 rfl (v := .int (zI ((((tp + 1) + 1) : Nat) : Int))) rfl rfl (Nat.le_of_ble_eq_true rfl) (ws' := [(a, .inr (0, [u0, .ref (ta), u2, u3, u4, u5, u6, u7, u8, u9, u10, u11, u12, u13, u14, u15, u16, u17, u18, u19])), (ta, .inr (2, [xw, .ref (qt), .int (zI ((((tp + 1) + 1) : Nat) : Int)), .ref (qs), .ref (qf), .ref (qo), .ref (qw), .int (zI ((mn : Nat) : Int))])), (qt, .inl (dA 1, 2000, .inl (fun jz => zI ((va_up (va_up tf tp (i8 ((v) / 2 ^ 24))) (tp + 1) (i8 ((v) / 2 ^ 16))) jz))))]) rfl dX0_typed_36 (fun H locs hP hD hS => ?_)
  refine lv_iinc (v := zI 8) (lv' := [(2, .int (zI 8)), (0, .ref (a)), (1, .int (zI (v)))]) hx hb dX0_typed_39 hl (k := 0) rfl (zI_inc (by omega)) (by decide) rfl (fun ls hl => ?_)
  refine lv_goto (tgt := 3) hx hb dX0_typed_42 (by decide) ?_
  refine lv_iload_n hx hb dX0_typed_3 rfl (lv_at hl 0 rfl) ?_
  refine z_if_lt (tgt := 45) C ⟨by decide, by decide⟩ dX0_typed_4 (by decide) (fun c => absurd c (by decide)) (fun _ => ?_)
  refine lv_aload_n hx hb dX0_typed_7 rfl (lv_at hl 1 rfl) ?_
  refine z_get C hP 0 rfl rfl in_X0 1 (by decide) q526 rfl dX0_typed_8 ?_
  refine z_get C hP 1 rfl rfl in_X2 1 (by decide) q252 rfl dX0_typed_11 ?_
  refine lv_aload_n hx hb dX0_typed_14 rfl (lv_at hl 1 rfl) ?_
  refine z_get C hP 0 rfl rfl in_X0 1 (by decide) q526 rfl dX0_typed_15 ?_
  refine z_get C hP 1 rfl rfl in_X2 2 (by decide) q254 rfl dX0_typed_18 ?_
  refine lv_iload_n hx hb dX0_typed_21 rfl (lv_at hl 2 rfl) ?_
  refine lv_iload_n hx hb dX0_typed_22 rfl (lv_at hl 0 rfl) ?_
  refine z_ishr C (8) rfl (by omega) ⟨by omega, by omega⟩ dX0_typed_23 ?_
  refine z_i2b C dX0_typed_24 ?_
  have hi8 := i8_b ((v) / 2 ^ 8)
  refine z_bast C hP hD hS 2 rfl (((tp + 1) + 1)) rfl (by omega) (by decide) (v := (i8 ((v) / 2 ^ 8))) ⟨by omega, by omega⟩ (ws' := [(a, .inr (0, [u0, .ref (ta), u2, u3, u4, u5, u6, u7, u8, u9, u10, u11, u12, u13, u14, u15, u16, u17, u18, u19])), (ta, .inr (2, [xw, .ref (qt), .int (zI ((((tp + 1) + 1) : Nat) : Int)), .ref (qs), .ref (qf), .ref (qo), .ref (qw), .int (zI ((mn : Nat) : Int))])), (qt, .inl (dA 1, 2000, .inl (fun jz => zI ((va_up (va_up (va_up tf tp (i8 ((v) / 2 ^ 24))) (tp + 1) (i8 ((v) / 2 ^ 16))) ((tp + 1) + 1) (i8 ((v) / 2 ^ 8))) jz))))]) rfl dX0_typed_25 (fun H locs hP hD hS => ?_)
  refine lv_aload_n hx hb dX0_typed_26 rfl (lv_at hl 1 rfl) ?_
  refine z_get C hP 0 rfl rfl in_X0 1 (by decide) q526 rfl dX0_typed_27 ?_
  refine lv_dup hx hb dX0_typed_30 rfl ?_
  refine z_get C hP 1 rfl rfl in_X2 2 (by decide) q254 rfl dX0_typed_31 ?_
  refine z_iconst C dX0_typed_34 ?_
  refine z_iaddN C (((tp + 1) + 1)) (1) rfl rfl dX0_typed_35 ?_
  refine z_put C hP hD hS 1 rfl rfl in_X2 tyX2_ok nmX2 2 (by decide) q254 rfl (v := .int (zI (((((tp + 1) + 1) + 1) : Nat) : Int))) rfl rfl (Nat.le_of_ble_eq_true rfl) (ws' := [(a, .inr (0, [u0, .ref (ta), u2, u3, u4, u5, u6, u7, u8, u9, u10, u11, u12, u13, u14, u15, u16, u17, u18, u19])), (ta, .inr (2, [xw, .ref (qt), .int (zI (((((tp + 1) + 1) + 1) : Nat) : Int)), .ref (qs), .ref (qf), .ref (qo), .ref (qw), .int (zI ((mn : Nat) : Int))])), (qt, .inl (dA 1, 2000, .inl (fun jz => zI ((va_up (va_up (va_up tf tp (i8 ((v) / 2 ^ 24))) (tp + 1) (i8 ((v) / 2 ^ 16))) ((tp + 1) + 1) (i8 ((v) / 2 ^ 8))) jz))))]) rfl dX0_typed_36 (fun H locs hP hD hS => ?_)
  refine lv_iinc (v := zI 0) (lv' := [(2, .int (zI 0)), (0, .ref (a)), (1, .int (zI (v)))]) hx hb dX0_typed_39 hl (k := 0) rfl (zI_inc (by omega)) (by decide) rfl (fun ls hl => ?_)
  refine lv_goto (tgt := 3) hx hb dX0_typed_42 (by decide) ?_
  refine lv_iload_n hx hb dX0_typed_3 rfl (lv_at hl 0 rfl) ?_
  refine z_if_lt (tgt := 45) C ⟨by decide, by decide⟩ dX0_typed_4 (by decide) (fun c => absurd c (by decide)) (fun _ => ?_)
  refine lv_aload_n hx hb dX0_typed_7 rfl (lv_at hl 1 rfl) ?_
  refine z_get C hP 0 rfl rfl in_X0 1 (by decide) q526 rfl dX0_typed_8 ?_
  refine z_get C hP 1 rfl rfl in_X2 1 (by decide) q252 rfl dX0_typed_11 ?_
  refine lv_aload_n hx hb dX0_typed_14 rfl (lv_at hl 1 rfl) ?_
  refine z_get C hP 0 rfl rfl in_X0 1 (by decide) q526 rfl dX0_typed_15 ?_
  refine z_get C hP 1 rfl rfl in_X2 2 (by decide) q254 rfl dX0_typed_18 ?_
  refine lv_iload_n hx hb dX0_typed_21 rfl (lv_at hl 2 rfl) ?_
  refine lv_iload_n hx hb dX0_typed_22 rfl (lv_at hl 0 rfl) ?_
  refine z_ishr C (0) rfl (by omega) ⟨by omega, by omega⟩ dX0_typed_23 ?_
  refine z_i2b C dX0_typed_24 ?_
  have hi8 := i8_b ((v) / 2 ^ 0)
  refine z_bast C hP hD hS 2 rfl ((((tp + 1) + 1) + 1)) rfl (by omega) (by decide) (v := (i8 ((v) / 2 ^ 0))) ⟨by omega, by omega⟩ (ws' := [(a, .inr (0, [u0, .ref (ta), u2, u3, u4, u5, u6, u7, u8, u9, u10, u11, u12, u13, u14, u15, u16, u17, u18, u19])), (ta, .inr (2, [xw, .ref (qt), .int (zI (((((tp + 1) + 1) + 1) : Nat) : Int)), .ref (qs), .ref (qf), .ref (qo), .ref (qw), .int (zI ((mn : Nat) : Int))])), (qt, .inl (dA 1, 2000, .inl (fun jz => zI ((va_up (va_up (va_up (va_up tf tp (i8 ((v) / 2 ^ 24))) (tp + 1) (i8 ((v) / 2 ^ 16))) ((tp + 1) + 1) (i8 ((v) / 2 ^ 8))) (((tp + 1) + 1) + 1) (i8 ((v) / 2 ^ 0))) jz))))]) rfl dX0_typed_25 (fun H locs hP hD hS => ?_)
  refine lv_aload_n hx hb dX0_typed_26 rfl (lv_at hl 1 rfl) ?_
  refine z_get C hP 0 rfl rfl in_X0 1 (by decide) q526 rfl dX0_typed_27 ?_
  refine lv_dup hx hb dX0_typed_30 rfl ?_
  refine z_get C hP 1 rfl rfl in_X2 2 (by decide) q254 rfl dX0_typed_31 ?_
  refine z_iconst C dX0_typed_34 ?_
  refine z_iaddN C ((((tp + 1) + 1) + 1)) (1) rfl rfl dX0_typed_35 ?_
  refine z_put C hP hD hS 1 rfl rfl in_X2 tyX2_ok nmX2 2 (by decide) q254 rfl (v := .int (zI ((((((tp + 1) + 1) + 1) + 1) : Nat) : Int))) rfl rfl (Nat.le_of_ble_eq_true rfl) (ws' := [(a, .inr (0, [u0, .ref (ta), u2, u3, u4, u5, u6, u7, u8, u9, u10, u11, u12, u13, u14, u15, u16, u17, u18, u19])), (ta, .inr (2, [xw, .ref (qt), .int (zI ((((((tp + 1) + 1) + 1) + 1) : Nat) : Int)), .ref (qs), .ref (qf), .ref (qo), .ref (qw), .int (zI ((mn : Nat) : Int))])), (qt, .inl (dA 1, 2000, .inl (fun jz => zI ((va_up (va_up (va_up (va_up tf tp (i8 ((v) / 2 ^ 24))) (tp + 1) (i8 ((v) / 2 ^ 16))) ((tp + 1) + 1) (i8 ((v) / 2 ^ 8))) (((tp + 1) + 1) + 1) (i8 ((v) / 2 ^ 0))) jz))))]) rfl dX0_typed_36 (fun H locs hP hD hS => ?_)
  refine lv_iinc (v := zI (-8)) (lv' := [(2, .int (zI (-8))), (0, .ref (a)), (1, .int (zI (v)))]) hx hb dX0_typed_39 hl (k := 0) rfl (zI_inc (by omega)) (by decide) rfl (fun ls hl => ?_)
  refine lv_goto (tgt := 3) hx hb dX0_typed_42 (by decide) ?_
  refine lv_iload_n hx hb dX0_typed_3 rfl (lv_at hl 0 rfl) ?_
  refine z_if_lt (tgt := 45) C ⟨by decide, by decide⟩ dX0_typed_4 (by decide) (fun _ => ?_) (fun c => absurd c (by decide))
  exact z_vretG C hlk hr hQ () rfl trivial (hP.sub [0, 1, 2] rfl) (hD.sub [0, 1, 2] (by decide) rfl) hS (Nat.le_of_ble_eq_true rfl) (Nat.le_of_ble_eq_true rfl) dX0_typed_45
set_option maxHeartbeats 600000 in
set_option maxRecDepth 100000 in
theorem k_X0_feed (l : Launch) (D : va_G) (dA : Nat → ClassId) (a : Nat) (u0 u2 u3 u4 u5 u6 u7 u8 u9 u10 u11 u12 u13 u14 u15 u16 u17 u18 u19 : Value) (ta qt tp qs qf qo qw mn : Nat) (xw : Value) (tf : Nat → Int) (x1 x2 x3 x4 x5 : Int) (htp : tp + 20 ≤ 2000) (hv1 : zR x1) (hv2 : zR x2) (hv3 : zR x3) (hv4 : zR x4) (hv5 : zR x5) : zG (S := Unit) l yX0_feed cX0_feed 6 (some .int) (zRmW 1 22 0 0) D dA [.ref (a), .int (zI (x1)), .int (zI (x2)), .int (zI (x3)), .int (zI (x4)), .int (zI (x5))] [(a, .inr (0, [u0, .ref (ta), u2, u3, u4, u5, u6, u7, u8, u9, u10, u11, u12, u13, u14, u15, u16, u17, u18, u19])), (ta, .inr (2, [xw, .ref (qt), .int (zI ((tp : Nat) : Int)), .ref (qs), .ref (qf), .ref (qo), .ref (qw), .int (zI ((mn : Nat) : Int))])), (qt, .inl (dA 1, 2000, .inl (fun jz => zI (tf jz))))] (fun _ : Unit => some (.int (zI ((tp + 20 : Nat) : Int)))) (fun _ : Unit => True) (fun _ : Unit => [(a, .inr (0, [u0, .ref (ta), u2, u3, u4, u5, u6, u7, u8, u9, u10, u11, u12, u13, u14, u15, u16, u17, u18, u19])), (ta, .inr (2, [xw, .ref (qt), .int (zI ((tp + 20 : Nat) : Int)), .ref (qs), .ref (qf), .ref (qo), .ref (qw), .int (zI ((mn : Nat) : Int))])), (qt, .inl (dA 1, 2000, .inl (fun jz => zI ((lay4 (lay4 (lay4 (lay4 (lay4 tf tp x1) (tp + 4) x2) (tp + 8) x3) (tp + 12) x4) (tp + 16) x5) jz))))]) := by
  refine zG.of (by decide +kernel) rfl ?_
  intro pp ee ss mm args below meth cd Q A C hr hlk hQ hA hin H locs hP hD hS ls hl
  have hx := C.1.1
  have hb := C.1.2.1
  have hl : lv_has ls 6 [(0, .ref (a)), (1, .int (zI (x1))), (2, .int (zI (x2))), (3, .int (zI (x3))), (4, .int (zI (x4))), (5, .int (zI (x5)))] := hl
  refine lv_aload_n hx hb dX0_feed_0 rfl (lv_at hl 0 rfl) ?_
  refine z_get C hP 0 rfl rfl in_X0 1 (by decide) q526 rfl dX0_feed_1 ?_
  refine z_get C hP 1 rfl rfl in_X2 2 (by decide) q254 rfl dX0_feed_4 ?_
  refine z_bipush C dX0_feed_7 rfl ?_
  refine z_iaddN C (tp) (20) rfl rfl dX0_feed_9 ?_
  refine z_sipush C dX0_feed_10 rfl ?_
  refine z_icmp_le (tgt := 18) C ⟨by omega, by omega⟩ ⟨by decide, by decide⟩ dX0_feed_13 (by decide) (fun c_13 => ?_) (fun c_13 => ?_)
  · refine lv_aload_n hx hb dX0_feed_18 rfl (lv_at hl 0 rfl) ?_
    refine lv_iload_n hx hb dX0_feed_19 rfl (lv_at hl 1 rfl) ?_
    refine z_gV (n := 1) (As := [.int (zI (x1))]) (rest := []) (wc := [(a, .inr (0, [u0, .ref (ta), u2, u3, u4, u5, u6, u7, u8, u9, u10, u11, u12, u13, u14, u15, u16, u17, u18, u19])), (ta, .inr (2, [xw, .ref (qt), .int (zI ((tp : Nat) : Int)), .ref (qs), .ref (qf), .ref (qo), .ref (qw), .int (zI ((mn : Nat) : Int))])), (qt, .inl (dA 1, 2000, .inl (fun jz => zI (tf jz))))]) (wr := []) C hP hD hS hA [0, 1, 2] [] rfl rfl (by decide) (by decide) (by decide) (k_X0_typed l D dA (a) (u0) (u2) (u3) (u4) (u5) (u6) (u7) (u8) (u9) (u10) (u11) (u12) (u13) (u14) (u15) (u16) (u17) (u18) (u19) (ta) (qt) (tp) (qs) (qf) (qo) (qw) (mn) (xw) (tf) ((x1)) (by first | with_reducible assumption | omega | with_reducible rfl) (by first | with_reducible assumption | omega | with_reducible rfl)) (lw_V q590 q592 qs1 q108 q593) (by decide +kernel) rfl ⟨Nat.le_of_ble_eq_true rfl, Nat.le_of_ble_eq_true rfl⟩ hl.1 0 rfl rfl rfl (Nat.le_of_ble_eq_true rfl) dX0_feed_20 (by decide) (by decide) (fun _ H locs hp_20 hP hD hS _ => ?_)
    have hP := hP.sub (ws' := [(a, .inr (0, [u0, .ref (ta), u2, u3, u4, u5, u6, u7, u8, u9, u10, u11, u12, u13, u14, u15, u16, u17, u18, u19])), (ta, .inr (2, [xw, .ref (qt), .int (zI ((tp + 4 : Nat) : Int)), .ref (qs), .ref (qf), .ref (qo), .ref (qw), .int (zI ((mn : Nat) : Int))])), (qt, .inl (dA 1, 2000, .inl (fun jz => zI ((lay4 tf tp ((x1))) jz))))]) [0, 1, 2] rfl
    have hD := hD.sub (ws' := [(a, .inr (0, [u0, .ref (ta), u2, u3, u4, u5, u6, u7, u8, u9, u10, u11, u12, u13, u14, u15, u16, u17, u18, u19])), (ta, .inr (2, [xw, .ref (qt), .int (zI ((tp + 4 : Nat) : Int)), .ref (qs), .ref (qf), .ref (qo), .ref (qw), .int (zI ((mn : Nat) : Int))])), (qt, .inl (dA 1, 2000, .inl (fun jz => zI ((lay4 tf tp ((x1))) jz))))]) [0, 1, 2] (by decide) rfl
    refine W.widen (k := 0) (n := 0) (Nat.le_of_ble_eq_true rfl) (Nat.le_of_ble_eq_true rfl) ?_
    refine lv_aload_n hx hb dX0_feed_23 rfl (lv_at hl 0 rfl) ?_
    refine lv_iload_n hx hb dX0_feed_24 rfl (lv_at hl 2 rfl) ?_
    refine z_gV (n := 1) (As := [.int (zI (x2))]) (rest := []) (wc := [(a, .inr (0, [u0, .ref (ta), u2, u3, u4, u5, u6, u7, u8, u9, u10, u11, u12, u13, u14, u15, u16, u17, u18, u19])), (ta, .inr (2, [xw, .ref (qt), .int (zI ((tp + 4 : Nat) : Int)), .ref (qs), .ref (qf), .ref (qo), .ref (qw), .int (zI ((mn : Nat) : Int))])), (qt, .inl (dA 1, 2000, .inl (fun jz => zI ((lay4 tf tp ((x1))) jz))))]) (wr := []) C hP hD hS hA [0, 1, 2] [] rfl rfl (by decide) (by decide) (by decide) (k_X0_typed l D dA (a) (u0) (u2) (u3) (u4) (u5) (u6) (u7) (u8) (u9) (u10) (u11) (u12) (u13) (u14) (u15) (u16) (u17) (u18) (u19) (ta) (qt) (tp + 4) (qs) (qf) (qo) (qw) (mn) (xw) ((lay4 tf tp ((x1)))) ((x2)) (by first | with_reducible assumption | omega | with_reducible rfl) (by first | with_reducible assumption | omega | with_reducible rfl)) (lw_V q590 q592 qs1 q108 q593) (by decide +kernel) rfl ⟨Nat.le_of_ble_eq_true rfl, Nat.le_of_ble_eq_true rfl⟩ hl.1 0 rfl rfl rfl (Nat.le_of_ble_eq_true rfl) dX0_feed_25 (by decide) (by decide) (fun _ H locs hp_25 hP hD hS _ => ?_)
    have hP := hP.sub (ws' := [(a, .inr (0, [u0, .ref (ta), u2, u3, u4, u5, u6, u7, u8, u9, u10, u11, u12, u13, u14, u15, u16, u17, u18, u19])), (ta, .inr (2, [xw, .ref (qt), .int (zI (((tp + 4) + 4 : Nat) : Int)), .ref (qs), .ref (qf), .ref (qo), .ref (qw), .int (zI ((mn : Nat) : Int))])), (qt, .inl (dA 1, 2000, .inl (fun jz => zI ((lay4 ((lay4 tf tp ((x1)))) (tp + 4) ((x2))) jz))))]) [0, 1, 2] rfl
    have hD := hD.sub (ws' := [(a, .inr (0, [u0, .ref (ta), u2, u3, u4, u5, u6, u7, u8, u9, u10, u11, u12, u13, u14, u15, u16, u17, u18, u19])), (ta, .inr (2, [xw, .ref (qt), .int (zI (((tp + 4) + 4 : Nat) : Int)), .ref (qs), .ref (qf), .ref (qo), .ref (qw), .int (zI ((mn : Nat) : Int))])), (qt, .inl (dA 1, 2000, .inl (fun jz => zI ((lay4 ((lay4 tf tp ((x1)))) (tp + 4) ((x2))) jz))))]) [0, 1, 2] (by decide) rfl
    refine W.widen (k := 0) (n := 0) (Nat.le_of_ble_eq_true rfl) (Nat.le_of_ble_eq_true rfl) ?_
    refine lv_aload_n hx hb dX0_feed_28 rfl (lv_at hl 0 rfl) ?_
    refine lv_iload_n hx hb dX0_feed_29 rfl (lv_at hl 3 rfl) ?_
    refine z_gV (n := 1) (As := [.int (zI (x3))]) (rest := []) (wc := [(a, .inr (0, [u0, .ref (ta), u2, u3, u4, u5, u6, u7, u8, u9, u10, u11, u12, u13, u14, u15, u16, u17, u18, u19])), (ta, .inr (2, [xw, .ref (qt), .int (zI (((tp + 4) + 4 : Nat) : Int)), .ref (qs), .ref (qf), .ref (qo), .ref (qw), .int (zI ((mn : Nat) : Int))])), (qt, .inl (dA 1, 2000, .inl (fun jz => zI ((lay4 ((lay4 tf tp ((x1)))) (tp + 4) ((x2))) jz))))]) (wr := []) C hP hD hS hA [0, 1, 2] [] rfl rfl (by decide) (by decide) (by decide) (k_X0_typed l D dA (a) (u0) (u2) (u3) (u4) (u5) (u6) (u7) (u8) (u9) (u10) (u11) (u12) (u13) (u14) (u15) (u16) (u17) (u18) (u19) (ta) (qt) ((tp + 4) + 4) (qs) (qf) (qo) (qw) (mn) (xw) ((lay4 ((lay4 tf tp ((x1)))) (tp + 4) ((x2)))) ((x3)) (by first | with_reducible assumption | omega | with_reducible rfl) (by first | with_reducible assumption | omega | with_reducible rfl)) (lw_V q590 q592 qs1 q108 q593) (by decide +kernel) rfl ⟨Nat.le_of_ble_eq_true rfl, Nat.le_of_ble_eq_true rfl⟩ hl.1 0 rfl rfl rfl (Nat.le_of_ble_eq_true rfl) dX0_feed_30 (by decide) (by decide) (fun _ H locs hp_30 hP hD hS _ => ?_)
    have hP := hP.sub (ws' := [(a, .inr (0, [u0, .ref (ta), u2, u3, u4, u5, u6, u7, u8, u9, u10, u11, u12, u13, u14, u15, u16, u17, u18, u19])), (ta, .inr (2, [xw, .ref (qt), .int (zI ((((tp + 4) + 4) + 4 : Nat) : Int)), .ref (qs), .ref (qf), .ref (qo), .ref (qw), .int (zI ((mn : Nat) : Int))])), (qt, .inl (dA 1, 2000, .inl (fun jz => zI ((lay4 ((lay4 ((lay4 tf tp ((x1)))) (tp + 4) ((x2)))) ((tp + 4) + 4) ((x3))) jz))))]) [0, 1, 2] rfl
    have hD := hD.sub (ws' := [(a, .inr (0, [u0, .ref (ta), u2, u3, u4, u5, u6, u7, u8, u9, u10, u11, u12, u13, u14, u15, u16, u17, u18, u19])), (ta, .inr (2, [xw, .ref (qt), .int (zI ((((tp + 4) + 4) + 4 : Nat) : Int)), .ref (qs), .ref (qf), .ref (qo), .ref (qw), .int (zI ((mn : Nat) : Int))])), (qt, .inl (dA 1, 2000, .inl (fun jz => zI ((lay4 ((lay4 ((lay4 tf tp ((x1)))) (tp + 4) ((x2)))) ((tp + 4) + 4) ((x3))) jz))))]) [0, 1, 2] (by decide) rfl
    refine W.widen (k := 0) (n := 0) (Nat.le_of_ble_eq_true rfl) (Nat.le_of_ble_eq_true rfl) ?_
    refine lv_aload_n hx hb dX0_feed_33 rfl (lv_at hl 0 rfl) ?_
    refine lv_iload hx hb dX0_feed_34 (lv_at hl 4 rfl) ?_
    refine z_gV (n := 1) (As := [.int (zI (x4))]) (rest := []) (wc := [(a, .inr (0, [u0, .ref (ta), u2, u3, u4, u5, u6, u7, u8, u9, u10, u11, u12, u13, u14, u15, u16, u17, u18, u19])), (ta, .inr (2, [xw, .ref (qt), .int (zI ((((tp + 4) + 4) + 4 : Nat) : Int)), .ref (qs), .ref (qf), .ref (qo), .ref (qw), .int (zI ((mn : Nat) : Int))])), (qt, .inl (dA 1, 2000, .inl (fun jz => zI ((lay4 ((lay4 ((lay4 tf tp ((x1)))) (tp + 4) ((x2)))) ((tp + 4) + 4) ((x3))) jz))))]) (wr := []) C hP hD hS hA [0, 1, 2] [] rfl rfl (by decide) (by decide) (by decide) (k_X0_typed l D dA (a) (u0) (u2) (u3) (u4) (u5) (u6) (u7) (u8) (u9) (u10) (u11) (u12) (u13) (u14) (u15) (u16) (u17) (u18) (u19) (ta) (qt) (((tp + 4) + 4) + 4) (qs) (qf) (qo) (qw) (mn) (xw) ((lay4 ((lay4 ((lay4 tf tp ((x1)))) (tp + 4) ((x2)))) ((tp + 4) + 4) ((x3)))) ((x4)) (by first | with_reducible assumption | omega | with_reducible rfl) (by first | with_reducible assumption | omega | with_reducible rfl)) (lw_V q590 q592 qs1 q108 q593) (by decide +kernel) rfl ⟨Nat.le_of_ble_eq_true rfl, Nat.le_of_ble_eq_true rfl⟩ hl.1 0 rfl rfl rfl (Nat.le_of_ble_eq_true rfl) dX0_feed_36 (by decide) (by decide) (fun _ H locs hp_36 hP hD hS _ => ?_)
    have hP := hP.sub (ws' := [(a, .inr (0, [u0, .ref (ta), u2, u3, u4, u5, u6, u7, u8, u9, u10, u11, u12, u13, u14, u15, u16, u17, u18, u19])), (ta, .inr (2, [xw, .ref (qt), .int (zI (((((tp + 4) + 4) + 4) + 4 : Nat) : Int)), .ref (qs), .ref (qf), .ref (qo), .ref (qw), .int (zI ((mn : Nat) : Int))])), (qt, .inl (dA 1, 2000, .inl (fun jz => zI ((lay4 ((lay4 ((lay4 ((lay4 tf tp ((x1)))) (tp + 4) ((x2)))) ((tp + 4) + 4) ((x3)))) (((tp + 4) + 4) + 4) ((x4))) jz))))]) [0, 1, 2] rfl
    have hD := hD.sub (ws' := [(a, .inr (0, [u0, .ref (ta), u2, u3, u4, u5, u6, u7, u8, u9, u10, u11, u12, u13, u14, u15, u16, u17, u18, u19])), (ta, .inr (2, [xw, .ref (qt), .int (zI (((((tp + 4) + 4) + 4) + 4 : Nat) : Int)), .ref (qs), .ref (qf), .ref (qo), .ref (qw), .int (zI ((mn : Nat) : Int))])), (qt, .inl (dA 1, 2000, .inl (fun jz => zI ((lay4 ((lay4 ((lay4 ((lay4 tf tp ((x1)))) (tp + 4) ((x2)))) ((tp + 4) + 4) ((x3)))) (((tp + 4) + 4) + 4) ((x4))) jz))))]) [0, 1, 2] (by decide) rfl
    refine W.widen (k := 0) (n := 0) (Nat.le_of_ble_eq_true rfl) (Nat.le_of_ble_eq_true rfl) ?_
    refine lv_aload_n hx hb dX0_feed_39 rfl (lv_at hl 0 rfl) ?_
    refine lv_iload hx hb dX0_feed_40 (lv_at hl 5 rfl) ?_
    refine z_gV (n := 1) (As := [.int (zI (x5))]) (rest := []) (wc := [(a, .inr (0, [u0, .ref (ta), u2, u3, u4, u5, u6, u7, u8, u9, u10, u11, u12, u13, u14, u15, u16, u17, u18, u19])), (ta, .inr (2, [xw, .ref (qt), .int (zI (((((tp + 4) + 4) + 4) + 4 : Nat) : Int)), .ref (qs), .ref (qf), .ref (qo), .ref (qw), .int (zI ((mn : Nat) : Int))])), (qt, .inl (dA 1, 2000, .inl (fun jz => zI ((lay4 ((lay4 ((lay4 ((lay4 tf tp ((x1)))) (tp + 4) ((x2)))) ((tp + 4) + 4) ((x3)))) (((tp + 4) + 4) + 4) ((x4))) jz))))]) (wr := []) C hP hD hS hA [0, 1, 2] [] rfl rfl (by decide) (by decide) (by decide) (k_X0_typed l D dA (a) (u0) (u2) (u3) (u4) (u5) (u6) (u7) (u8) (u9) (u10) (u11) (u12) (u13) (u14) (u15) (u16) (u17) (u18) (u19) (ta) (qt) ((((tp + 4) + 4) + 4) + 4) (qs) (qf) (qo) (qw) (mn) (xw) ((lay4 ((lay4 ((lay4 ((lay4 tf tp ((x1)))) (tp + 4) ((x2)))) ((tp + 4) + 4) ((x3)))) (((tp + 4) + 4) + 4) ((x4)))) ((x5)) (by first | with_reducible assumption | omega | with_reducible rfl) (by first | with_reducible assumption | omega | with_reducible rfl)) (lw_V q590 q592 qs1 q108 q593) (by decide +kernel) rfl ⟨Nat.le_of_ble_eq_true rfl, Nat.le_of_ble_eq_true rfl⟩ hl.1 0 rfl rfl rfl (Nat.le_of_ble_eq_true rfl) dX0_feed_42 (by decide) (by decide) (fun _ H locs hp_42 hP hD hS _ => ?_)
    have hP := hP.sub (ws' := [(a, .inr (0, [u0, .ref (ta), u2, u3, u4, u5, u6, u7, u8, u9, u10, u11, u12, u13, u14, u15, u16, u17, u18, u19])), (ta, .inr (2, [xw, .ref (qt), .int (zI ((((((tp + 4) + 4) + 4) + 4) + 4 : Nat) : Int)), .ref (qs), .ref (qf), .ref (qo), .ref (qw), .int (zI ((mn : Nat) : Int))])), (qt, .inl (dA 1, 2000, .inl (fun jz => zI ((lay4 ((lay4 ((lay4 ((lay4 ((lay4 tf tp ((x1)))) (tp + 4) ((x2)))) ((tp + 4) + 4) ((x3)))) (((tp + 4) + 4) + 4) ((x4)))) ((((tp + 4) + 4) + 4) + 4) ((x5))) jz))))]) [0, 1, 2] rfl
    have hD := hD.sub (ws' := [(a, .inr (0, [u0, .ref (ta), u2, u3, u4, u5, u6, u7, u8, u9, u10, u11, u12, u13, u14, u15, u16, u17, u18, u19])), (ta, .inr (2, [xw, .ref (qt), .int (zI ((((((tp + 4) + 4) + 4) + 4) + 4 : Nat) : Int)), .ref (qs), .ref (qf), .ref (qo), .ref (qw), .int (zI ((mn : Nat) : Int))])), (qt, .inl (dA 1, 2000, .inl (fun jz => zI ((lay4 ((lay4 ((lay4 ((lay4 ((lay4 tf tp ((x1)))) (tp + 4) ((x2)))) ((tp + 4) + 4) ((x3)))) (((tp + 4) + 4) + 4) ((x4)))) ((((tp + 4) + 4) + 4) + 4) ((x5))) jz))))]) [0, 1, 2] (by decide) rfl
    refine W.widen (k := 0) (n := 0) (Nat.le_of_ble_eq_true rfl) (Nat.le_of_ble_eq_true rfl) ?_
    refine lv_aload_n hx hb dX0_feed_45 rfl (lv_at hl 0 rfl) ?_
    refine z_get C hP 0 rfl rfl in_X0 1 (by decide) q526 rfl dX0_feed_46 ?_
    refine z_get C hP 1 rfl rfl in_X2 2 (by decide) q254 rfl dX0_feed_49 ?_
    exact z_iretG C hlk hr hQ () rfl trivial (hP.sub [0, 1, 2] rfl) (hD.sub [0, 1, 2] (by decide) rfl) hS (Nat.le_of_ble_eq_true rfl) (Nat.le_of_ble_eq_true rfl) dX0_feed_52
  · exact absurd c_13 (by omega)
set_option maxHeartbeats 600000 in
set_option maxRecDepth 100000 in
theorem k_X0_back (l : Launch) (D : va_G) (dA : Nat → ClassId) (a : Nat) (u0 u2 u3 u4 u5 u6 u7 u8 u9 u10 u11 u12 u13 u14 u15 u16 u17 u18 u19 : Value) (ta qt tp qs qf qo qw mn : Nat) (xw : Value) (k : Nat) (hk : k ≤ tp) (htp : tp ≤ 2000) : zG (S := Unit) l yX0_back cX0_back 2 (some .int) (zRmW 0 0 0 0) D dA [.ref (a), .int (zI ((k : Nat) : Int))] [(a, .inr (0, [u0, .ref (ta), u2, u3, u4, u5, u6, u7, u8, u9, u10, u11, u12, u13, u14, u15, u16, u17, u18, u19])), (ta, .inr (2, [xw, .ref (qt), .int (zI ((tp : Nat) : Int)), .ref (qs), .ref (qf), .ref (qo), .ref (qw), .int (zI ((mn : Nat) : Int))]))] (fun _ : Unit => some (.int (zI ((tp - k : Nat) : Int)))) (fun _ : Unit => True) (fun _ : Unit => [(a, .inr (0, [u0, .ref (ta), u2, u3, u4, u5, u6, u7, u8, u9, u10, u11, u12, u13, u14, u15, u16, u17, u18, u19])), (ta, .inr (2, [xw, .ref (qt), .int (zI ((tp - k : Nat) : Int)), .ref (qs), .ref (qf), .ref (qo), .ref (qw), .int (zI ((mn : Nat) : Int))]))]) := by
  refine zG.of (by decide +kernel) rfl ?_
  intro pp ee ss mm args below meth cd Q A C hr hlk hQ hA hin H locs hP hD hS ls hl
  have hx := C.1.1
  have hb := C.1.2.1
  have hl : lv_has ls 2 [(0, .ref (a)), (1, .int (zI ((k : Nat) : Int)))] := hl
  refine lv_iload_n hx hb dX0_back_0 rfl (lv_at hl 1 rfl) ?_
  refine z_if_lt (tgt := 15) C ⟨by omega, by omega⟩ dX0_back_1 (by decide) (fun c_1 => ?_) (fun c_1 => ?_)
  · exact absurd c_1 (by omega)
  · refine lv_iload_n hx hb dX0_back_4 rfl (lv_at hl 1 rfl) ?_
    refine lv_aload_n hx hb dX0_back_5 rfl (lv_at hl 0 rfl) ?_
    refine z_get C hP 0 rfl rfl in_X0 1 (by decide) q526 rfl dX0_back_6 ?_
    refine z_get C hP 1 rfl rfl in_X2 2 (by decide) q254 rfl dX0_back_9 ?_
    refine z_icmp_le (tgt := 17) C ⟨by omega, by omega⟩ ⟨by omega, by omega⟩ dX0_back_12 (by decide) (fun c_12 => ?_) (fun c_12 => ?_)
    · refine lv_aload_n hx hb dX0_back_17 rfl (lv_at hl 0 rfl) ?_
      refine z_get C hP 0 rfl rfl in_X0 1 (by decide) q526 rfl dX0_back_18 ?_
      refine lv_dup hx hb dX0_back_21 rfl ?_
      refine z_get C hP 1 rfl rfl in_X2 2 (by decide) q254 rfl dX0_back_22 ?_
      refine lv_iload_n hx hb dX0_back_25 rfl (lv_at hl 1 rfl) ?_
      refine z_isubN C (tp) (k) rfl rfl hk dX0_back_26 ?_
      refine z_put C hP hD hS 1 rfl rfl in_X2 tyX2_ok nmX2 2 (by decide) q254 rfl (v := .int (zI (((tp - k) : Nat) : Int))) rfl rfl (Nat.le_of_ble_eq_true rfl) (ws' := [(a, .inr (0, [u0, .ref (ta), u2, u3, u4, u5, u6, u7, u8, u9, u10, u11, u12, u13, u14, u15, u16, u17, u18, u19])), (ta, .inr (2, [xw, .ref (qt), .int (zI (((tp - k) : Nat) : Int)), .ref (qs), .ref (qf), .ref (qo), .ref (qw), .int (zI ((mn : Nat) : Int))]))]) rfl dX0_back_27 (fun H locs hP hD hS => ?_)
      refine lv_aload_n hx hb dX0_back_30 rfl (lv_at hl 0 rfl) ?_
      refine z_get C hP 0 rfl rfl in_X0 1 (by decide) q526 rfl dX0_back_31 ?_
      refine z_get C hP 1 rfl rfl in_X2 2 (by decide) q254 rfl dX0_back_34 ?_
      exact z_iretG C hlk hr hQ () rfl trivial (hP.sub [0, 1] rfl) (hD.sub [0, 1] (by decide) rfl) hS (Nat.le_of_ble_eq_true rfl) (Nat.le_of_ble_eq_true rfl) dX0_back_37
    · exact absurd c_12 (by omega)
set_option maxHeartbeats 600000 in
set_option maxRecDepth 100000 in
theorem k_X0_back_out (l : Launch) (D : va_G) (dA : Nat → ClassId) (a : Nat) (u0 u2 u3 u4 u5 u6 u7 u8 u9 u10 u11 u12 u13 u14 u15 u16 u17 u18 u19 : Value) (ta qt tp qs qf qo qw mn : Nat) (xw : Value) (k : Int) (hk : k < 0 ∨ (tp : Int) < k) (hz : zR k) (htp : tp ≤ 2000) : zM l yX0_back cX0_back 2 (some .int) (zRm 0 0) D dA [.ref (a), .int (zI (k))] [(a, .inr (0, [u0, .ref (ta), u2, u3, u4, u5, u6, u7, u8, u9, u10, u11, u12, u13, u14, u15, u16, u17, u18, u19])), (ta, .inr (2, [xw, .ref (qt), .int (zI ((tp : Nat) : Int)), .ref (qs), .ref (qf), .ref (qo), .ref (qw), .int (zI ((mn : Nat) : Int))]))] (some (.int (zI (-1)))) := by
  refine zM.of (by decide +kernel) rfl ?_
  intro pp ee ss mm args below meth cd Q C hr hlk hQ hP ls hl
  have hx := C.1.1
  have hb := C.1.2.1
  have hl : lv_has ls 2 [(0, .ref (a)), (1, .int (zI (k)))] := hl
  refine lv_iload_n hx hb dX0_back_0 rfl (lv_at hl 1 rfl) ?_
  refine z_if_lt (tgt := 15) C ⟨by omega, by omega⟩ dX0_back_1 (by decide) (fun c_1 => ?_) (fun c_1 => ?_)
  · refine z_iconst C dX0_back_15 ?_
    exact z_iret C hlk hr hQ (by first | rfl | omega) dX0_back_16
  · refine lv_iload_n hx hb dX0_back_4 rfl (lv_at hl 1 rfl) ?_
    refine lv_aload_n hx hb dX0_back_5 rfl (lv_at hl 0 rfl) ?_
    refine z_get C hP 0 rfl rfl in_X0 1 (by decide) q526 rfl dX0_back_6 ?_
    refine z_get C hP 1 rfl rfl in_X2 2 (by decide) q254 rfl dX0_back_9 ?_
    refine z_icmp_le (tgt := 17) C ⟨by omega, by omega⟩ ⟨by omega, by omega⟩ dX0_back_12 (by decide) (fun c_12 => ?_) (fun c_12 => ?_)
    · exact absurd hk (by omega)
    · refine z_iconst C dX0_back_15 ?_
      exact z_iret C hlk hr hQ (by first | rfl | omega) dX0_back_16
set_option maxHeartbeats 600000 in
set_option maxRecDepth 100000 in
theorem k_X0_place (l : Launch) (D : va_G) (dA : Nat → ClassId) (a : Nat) (u0 u1 u2 u3 u4 u5 u6 u7 u8 u9 u11 u12 u13 u14 u15 u16 u17 u18 u19 : Value) (pl : Int) : zM l yX0_place cX0_place 1 (some .int) (zRm 0 0) D dA [.ref (a)] [(a, .inr (0, [u0, u1, u2, u3, u4, u5, u6, u7, u8, u9, .int (zI (pl)), u11, u12, u13, u14, u15, u16, u17, u18, u19]))] (some (.int (zI (pl)))) := by
  refine zM.of (by decide +kernel) rfl ?_
  intro pp ee ss mm args below meth cd Q C hr hlk hQ hP ls hl
  have hx := C.1.1
  have hb := C.1.2.1
  have hl : lv_has ls 1 [(0, .ref (a))] := hl
  refine lv_aload_n hx hb dX0_place_0 rfl (lv_at hl 0 rfl) ?_
  refine z_get C hP 0 rfl rfl in_X0 10 (by decide) q535 rfl dX0_place_1 ?_
  exact z_iret C hlk hr hQ (by first | rfl | omega) dX0_place_4
set_option maxHeartbeats 600000 in
set_option maxRecDepth 100000 in
theorem k_X0_pinOf (l : Launch) (D : va_G) (dA : Nat → ClassId) (a : Nat) (u0 u1 u2 u4 u5 u6 u7 u8 u9 u10 u11 u12 u13 u14 u15 u16 u17 u18 u19 : Value) (sp w le rg st sd qa ql qf up dn : Nat) (k : Nat) (hu : up < 65536) (hd : dn < 65536) (hk : k < 32) : zM l yX0_pinOf cX0_pinOf 2 (some .int) (zRm 1 21) D dA [.ref (a), .int (zI ((k : Nat) : Int))] [(a, .inr (0, [u0, u1, u2, .ref (sp), u4, u5, u6, u7, u8, u9, u10, u11, u12, u13, u14, u15, u16, u17, u18, u19])), (sp, .inr (4, [.int (zI ((w : Nat) : Int)), .int (zI ((le : Nat) : Int)), .int (zI ((rg : Nat) : Int)), .int (zI ((st : Nat) : Int)), .int (zI ((sd : Nat) : Int)), .ref (qa), .ref (ql), .ref (qf), .int (zI ((up : Nat) : Int)), .int (zI ((dn : Nat) : Int))]))] (some (.int (zI (if up.testBit k = true then 1 else if dn.testBit k = true then 2 else 0)))) := by
  refine zM.of (by decide +kernel) rfl ?_
  intro pp ee ss mm args below meth cd Q C hr hlk hQ hP ls hl
  have hx := C.1.1
  have hb := C.1.2.1
  have hl : lv_has ls 2 [(0, .ref (a)), (1, .int (zI ((k : Nat) : Int)))] := hl
  refine lv_aload_n hx hb dX0_pinOf_0 rfl (lv_at hl 0 rfl) ?_
  refine z_get C hP 0 rfl rfl in_X0 3 (by decide) q528 rfl dX0_pinOf_1 ?_
  refine z_get C hP 1 rfl rfl in_X4 8 (by decide) q324 rfl dX0_pinOf_4 ?_
  refine lv_iload_n hx hb dX0_pinOf_7 rfl (lv_at hl 1 rfl) ?_
  refine z_cS (n := 2) (As := [.int (zI ((up : Nat) : Int)), .int (zI ((k : Nat) : Int))]) (rest := []) C (k_X0_has l D dA (up) (k) (by first | with_reducible assumption | omega | with_reducible rfl) (by first | with_reducible assumption | omega | with_reducible rfl)) (lw_S q917 q788 q108 q789) (by decide +kernel) rfl ⟨Nat.le_of_ble_eq_true rfl, Nat.le_of_ble_eq_true rfl⟩ hl.1 (hP.sub [] rfl) rfl (Nat.le_of_ble_eq_true rfl) dX0_pinOf_8 (Nat.zero_le _) (Nat.zero_le _) ?_
  refine z_if_eqB (tgt := 18) C dX0_pinOf_11 (by decide) (fun c_11 => ?_) (fun c_11 => ?_)
  · refine lv_aload_n hx hb dX0_pinOf_18 rfl (lv_at hl 0 rfl) ?_
    refine z_get C hP 0 rfl rfl in_X0 3 (by decide) q528 rfl dX0_pinOf_19 ?_
    refine z_get C hP 1 rfl rfl in_X4 9 (by decide) q328 rfl dX0_pinOf_22 ?_
    refine lv_iload_n hx hb dX0_pinOf_25 rfl (lv_at hl 1 rfl) ?_
    refine z_cS (n := 2) (As := [.int (zI ((dn : Nat) : Int)), .int (zI ((k : Nat) : Int))]) (rest := []) C (k_X0_has l D dA (dn) (k) (by first | with_reducible assumption | omega | with_reducible rfl) (by first | with_reducible assumption | omega | with_reducible rfl)) (lw_S q917 q788 q108 q789) (by decide +kernel) rfl ⟨Nat.le_of_ble_eq_true rfl, Nat.le_of_ble_eq_true rfl⟩ hl.1 (hP.sub [] rfl) rfl (Nat.le_of_ble_eq_true rfl) dX0_pinOf_26 (Nat.zero_le _) (Nat.zero_le _) ?_
    refine z_if_eqB (tgt := 36) C dX0_pinOf_29 (by decide) (fun c_29 => ?_) (fun c_29 => ?_)
    · refine z_iconst C dX0_pinOf_36 ?_
      exact z_iret C hlk hr hQ (by first | (rw [if_pos c_11]; done) | (rw [if_neg (by rw [c_11]; decide), if_pos c_29]; done) | (rw [if_neg (by rw [c_11]; decide), if_neg (by rw [c_29]; decide)]; done)) dX0_pinOf_37
    · refine z_iconst C dX0_pinOf_32 ?_
      refine lv_goto (tgt := 37) hx hb dX0_pinOf_33 (by decide) ?_
      exact z_iret C hlk hr hQ (by first | (rw [if_pos c_11]; done) | (rw [if_neg (by rw [c_11]; decide), if_pos c_29]; done) | (rw [if_neg (by rw [c_11]; decide), if_neg (by rw [c_29]; decide)]; done)) dX0_pinOf_37
  · refine z_iconst C dX0_pinOf_14 ?_
    refine lv_goto (tgt := 37) hx hb dX0_pinOf_15 (by decide) ?_
    exact z_iret C hlk hr hQ (by first | (rw [if_pos c_11]; done) | (rw [if_neg (by rw [c_11]; decide), if_pos c_29]; done) | (rw [if_neg (by rw [c_11]; decide), if_neg (by rw [c_29]; decide)]; done)) dX0_pinOf_37
set_option maxHeartbeats 600000 in
set_option maxRecDepth 100000 in
theorem k_X0_isHeld (l : Launch) (D : va_G) (dA : Nat → ClassId) (a : Nat) (u0 u1 u2 u3 u4 u5 u6 u7 u8 u9 u10 u12 u13 u14 u15 u16 u17 u18 u19 : Value) (hd : Nat) (k : Int) (h1 : hd < 8) (hz : zR k) : zM l yX0_isHeld cX0_isHeld 2 (some .boolean) (zRm 1 22) D dA [.ref (a), .int (zI (k))] [(a, .inr (0, [u0, u1, u2, u3, u4, u5, u6, u7, u8, u9, u10, .int (zI ((hd : Nat) : Int)), u12, u13, u14, u15, u16, u17, u18, u19]))] (some (.int (zB ((decide (0 ≤ k ∧ k ≤ 2) && hd.testBit k.toNat))))) := by
  refine zM.of (by decide +kernel) rfl ?_
  intro pp ee ss mm args below meth cd Q C hr hlk hQ hP ls hl
  have hx := C.1.1
  have hb := C.1.2.1
  have hl : lv_has ls 2 [(0, .ref (a)), (1, .int (zI (k)))] := hl
  refine lv_iload_n hx hb dX0_isHeld_0 rfl (lv_at hl 1 rfl) ?_
  refine z_iconst C dX0_isHeld_1 ?_
  refine z_iconst C dX0_isHeld_2 ?_
  refine z_cS (n := 3) (As := [.int (zI (k)), .int (zI 0), .int (zI 2)]) (rest := []) C (k_X0_isIn l D dA ((k)) (0) (2) (by first | with_reducible assumption | omega | with_reducible rfl) (by first | with_reducible assumption | omega | with_reducible rfl) (by first | with_reducible assumption | omega | with_reducible rfl)) (lw_S q826 q739 q108 q740) (by decide +kernel) rfl ⟨Nat.le_of_ble_eq_true rfl, Nat.le_of_ble_eq_true rfl⟩ hl.1 (hP.sub [] rfl) rfl (Nat.le_of_ble_eq_true rfl) dX0_isHeld_3 (Nat.zero_le _) (Nat.zero_le _) ?_
  refine z_if_eqB (tgt := 24) C dX0_isHeld_6 (by decide) (fun c_6 => ?_) (fun c_6 => ?_)
  · have c_6 := of_decide_eq_false c_6
    refine z_iconst C dX0_isHeld_24 ?_
    exact z_zret0 C hlk hr hQ (by first | (rw [decide_eq_false (by omega)]; rfl) | (rw [Int.toNat_natCast, c_17, Bool.and_false])) dX0_isHeld_25
  · have c_6 := of_decide_eq_true c_6
    obtain ⟨kq, rfl⟩ : ∃ q : Nat, k = (q : Int) := ⟨k.toNat, by omega⟩
    refine lv_aload_n hx hb dX0_isHeld_9 rfl (lv_at hl 0 rfl) ?_
    refine z_get C hP 0 rfl rfl in_X0 11 (by decide) q536 rfl dX0_isHeld_10 ?_
    refine lv_iload_n hx hb dX0_isHeld_13 rfl (lv_at hl 1 rfl) ?_
    refine z_cS (n := 2) (As := [.int (zI ((hd : Nat) : Int)), .int (zI ((kq : Nat) : Int))]) (rest := []) C (k_X0_has l D dA (hd) (kq) (by first | with_reducible assumption | omega | with_reducible rfl) (by first | with_reducible assumption | omega | with_reducible rfl)) (lw_S q917 q788 q108 q789) (by decide +kernel) rfl ⟨Nat.le_of_ble_eq_true rfl, Nat.le_of_ble_eq_true rfl⟩ hl.1 (hP.sub [] rfl) rfl (Nat.le_of_ble_eq_true rfl) dX0_isHeld_14 (Nat.zero_le _) (Nat.zero_le _) ?_
    refine z_if_eqB (tgt := 24) C dX0_isHeld_17 (by decide) (fun c_17 => ?_) (fun c_17 => ?_)
    · refine z_iconst C dX0_isHeld_24 ?_
      exact z_zret0 C hlk hr hQ (by first | (rw [decide_eq_false (by omega)]; rfl) | (rw [Int.toNat_natCast, c_17, Bool.and_false])) dX0_isHeld_25
    · refine z_iconst C dX0_isHeld_20 ?_
      refine lv_goto (tgt := 25) hx hb dX0_isHeld_21 (by decide) ?_
      exact z_zret1 C hlk hr hQ (by rw [Int.toNat_natCast, c_17, decide_eq_true (by omega)]; rfl) dX0_isHeld_25
set_option maxHeartbeats 600000 in
set_option maxRecDepth 100000 in
theorem k_X0_square (l : Launch) (D : va_G) (dA : Nat → ClassId) (a : Nat) (u0 u1 u2 u4 u5 u6 u7 u8 u9 u10 u11 u12 u13 u14 u15 u16 u17 u18 u19 : Value) (sp w le rg st sd qa ql qf up dn : Nat) (fa fl : Nat → Int) (k : Int) (hwl : w * le ≤ 16) (hrg : rg < 2147483648) (ba : ∀ j, -3 ≤ fa j ∧ fa j ≤ 3) (bl : ∀ j, -3 ≤ fl j ∧ fl j ≤ 3) (hz : zR k) : zM l yX0_square cX0_square 2 (some .int) (zRm 3 69) D dA [.ref (a), .int (zI (k))] [(a, .inr (0, [u0, u1, u2, .ref (sp), u4, u5, u6, u7, u8, u9, u10, u11, u12, u13, u14, u15, u16, u17, u18, u19])), (sp, .inr (4, [.int (zI ((w : Nat) : Int)), .int (zI ((le : Nat) : Int)), .int (zI ((rg : Nat) : Int)), .int (zI ((st : Nat) : Int)), .int (zI ((sd : Nat) : Int)), .ref (qa), .ref (ql), .ref (qf), .int (zI ((up : Nat) : Int)), .int (zI ((dn : Nat) : Int))])), (qa, .inl (dA 3, 16, .inl (fun jz => zI (fa jz)))), (ql, .inl (dA 3, 16, .inl (fun jz => zI (fl jz))))] (some (.int (zI (if 0 ≤ k ∧ k < ((w * le : Nat) : Int) then sqr w le rg fa fl k.toNat else -1)))) := by
  refine zM.of (by decide +kernel) rfl ?_
  intro pp ee ss mm args below meth cd Q C hr hlk hQ hP ls hl
  have hx := C.1.1
  have hb := C.1.2.1
  have hl : lv_has ls 2 [(0, .ref (a)), (1, .int (zI (k)))] := hl
  refine lv_aload_n hx hb dX0_square_0 rfl (lv_at hl 0 rfl) ?_
  refine z_get C hP 0 rfl rfl in_X0 3 (by decide) q528 rfl dX0_square_1 ?_
  refine lv_iload_n hx hb dX0_square_4 rfl (lv_at hl 1 rfl) ?_
  refine z_cV (n := 1) (As := [.int (zI (k))]) (rest := []) C hP (k_X4_isSite l D dA (sp) (w) (le) (rg) (st) (sd) (qa) (ql) (qf) (up) (dn) ((k)) (by first | with_reducible assumption | omega | with_reducible rfl) (by first | with_reducible assumption | omega | with_reducible rfl)) (lw_V q824 q778 q779 q115 q780) (by decide +kernel) rfl ⟨Nat.le_of_ble_eq_true rfl, Nat.le_of_ble_eq_true rfl⟩ hl.1 (hP.sub [1] rfl) 1 rfl rfl rfl (Nat.le_of_ble_eq_true rfl) dX0_square_5 (Nat.zero_le _) (Nat.zero_le _) ?_
  refine z_if_eqB (tgt := 22) C dX0_square_8 (by decide) (fun c_8 => ?_) (fun c_8 => ?_)
  · have c_8 := of_decide_eq_false c_8
    refine z_iconst C dX0_square_22 ?_
    exact z_iret C hlk hr hQ (by first | (rw [if_pos (by omega), Int.toNat_natCast]; done) | (rw [if_neg (by omega)]; done)) dX0_square_23
  · have c_8 := of_decide_eq_true c_8
    obtain ⟨kq, rfl⟩ : ∃ q : Nat, k = (q : Int) := ⟨k.toNat, by omega⟩
    refine lv_aload_n hx hb dX0_square_11 rfl (lv_at hl 0 rfl) ?_
    refine z_get C hP 0 rfl rfl in_X0 3 (by decide) q528 rfl dX0_square_12 ?_
    refine lv_iload_n hx hb dX0_square_15 rfl (lv_at hl 1 rfl) ?_
    refine z_cV (n := 1) (As := [.int (zI ((kq : Nat) : Int))]) (rest := []) C hP (k_X4_square l D dA (sp) (w) (le) (rg) (st) (sd) (qa) (ql) (qf) (up) (dn) (fa) (fl) (kq) (by first | with_reducible assumption | omega | with_reducible rfl) (by first | with_reducible assumption | omega | with_reducible rfl) (by first | with_reducible assumption | omega | with_reducible rfl) (by first | with_reducible assumption | omega | with_reducible rfl) (by first | with_reducible assumption | omega | with_reducible rfl)) (lw_V q1614 q1615 q1616 q115 q1617) (by decide +kernel) rfl ⟨Nat.le_of_ble_eq_true rfl, Nat.le_of_ble_eq_true rfl⟩ hl.1 (hP.sub [1, 2, 3] rfl) 1 rfl rfl rfl (Nat.le_of_ble_eq_true rfl) dX0_square_16 (Nat.zero_le _) (Nat.zero_le _) ?_
    refine lv_goto (tgt := 23) hx hb dX0_square_19 (by decide) ?_
    exact z_iret C hlk hr hQ (by first | (rw [if_pos (by omega), Int.toNat_natCast]; done) | (rw [if_neg (by omega)]; done)) dX0_square_23
set_option maxHeartbeats 600000 in
set_option maxRecDepth 100000 in
theorem k_X0_cluster (l : Launch) (D : va_G) (dA : Nat → ClassId) (a : Nat) (u0 u1 u2 u4 u5 u6 u7 u8 u9 u10 u11 u12 u13 u14 u15 u16 u17 u18 u19 : Value) (sp w le rg st sd qa ql qf up dn : Nat) (k : Int) (hwl : w * le ≤ 16) (hrg : rg < 2147483648) (hst : st < 2147483648) (hz : zR k) : zM l yX0_cluster cX0_cluster 2 (some .int) (zRm 3 71) D dA [.ref (a), .int (zI (k))] [(a, .inr (0, [u0, u1, u2, .ref (sp), u4, u5, u6, u7, u8, u9, u10, u11, u12, u13, u14, u15, u16, u17, u18, u19])), (sp, .inr (4, [.int (zI ((w : Nat) : Int)), .int (zI ((le : Nat) : Int)), .int (zI ((rg : Nat) : Int)), .int (zI ((st : Nat) : Int)), .int (zI ((sd : Nat) : Int)), .ref (qa), .ref (ql), .ref (qf), .int (zI ((up : Nat) : Int)), .int (zI ((dn : Nat) : Int))]))] (some (.int (zI (if 0 ≤ k ∧ k < ((w * le : Nat) : Int) then ((clR w le rg st 65537 (2 ^ k.toNat) 0 : Nat) : Int) else -1)))) := by
  refine zM.of (by decide +kernel) rfl ?_
  intro pp ee ss mm args below meth cd Q C hr hlk hQ hP ls hl
  have hx := C.1.1
  have hb := C.1.2.1
  have hl : lv_has ls 2 [(0, .ref (a)), (1, .int (zI (k)))] := hl
  refine lv_aload_n hx hb dX0_cluster_0 rfl (lv_at hl 0 rfl) ?_
  refine z_get C hP 0 rfl rfl in_X0 3 (by decide) q528 rfl dX0_cluster_1 ?_
  refine lv_iload_n hx hb dX0_cluster_4 rfl (lv_at hl 1 rfl) ?_
  refine z_cV (n := 1) (As := [.int (zI (k))]) (rest := []) C hP (k_X4_isSite l D dA (sp) (w) (le) (rg) (st) (sd) (qa) (ql) (qf) (up) (dn) ((k)) (by first | with_reducible assumption | omega | with_reducible rfl) (by first | with_reducible assumption | omega | with_reducible rfl)) (lw_V q824 q778 q779 q115 q780) (by decide +kernel) rfl ⟨Nat.le_of_ble_eq_true rfl, Nat.le_of_ble_eq_true rfl⟩ hl.1 (hP.sub [1] rfl) 1 rfl rfl rfl (Nat.le_of_ble_eq_true rfl) dX0_cluster_5 (Nat.zero_le _) (Nat.zero_le _) ?_
  refine z_if_eqB (tgt := 22) C dX0_cluster_8 (by decide) (fun c_8 => ?_) (fun c_8 => ?_)
  · have c_8 := of_decide_eq_false c_8
    refine z_iconst C dX0_cluster_22 ?_
    exact z_iret C hlk hr hQ (by first | (rw [if_pos (by omega), Int.toNat_natCast]; done) | (rw [if_neg (by omega)]; done)) dX0_cluster_23
  · have c_8 := of_decide_eq_true c_8
    obtain ⟨kq, rfl⟩ : ∃ q : Nat, k = (q : Int) := ⟨k.toNat, by omega⟩
    refine lv_aload_n hx hb dX0_cluster_11 rfl (lv_at hl 0 rfl) ?_
    refine z_get C hP 0 rfl rfl in_X0 3 (by decide) q528 rfl dX0_cluster_12 ?_
    refine lv_iload_n hx hb dX0_cluster_15 rfl (lv_at hl 1 rfl) ?_
    refine z_cV (n := 1) (As := [.int (zI ((kq : Nat) : Int))]) (rest := []) C hP (k_X4_cluster l D dA (sp) (w) (le) (rg) (st) (sd) (qa) (ql) (qf) (up) (dn) (kq) (by first | with_reducible assumption | omega | with_reducible rfl) (by first | with_reducible assumption | omega | with_reducible rfl) (by first | with_reducible assumption | omega | with_reducible rfl) (by first | with_reducible assumption | omega | with_reducible rfl)) (lw_V q1814 q1815 q1816 q115 q1817) (by decide +kernel) rfl ⟨Nat.le_of_ble_eq_true rfl, Nat.le_of_ble_eq_true rfl⟩ hl.1 (hP.sub [1] rfl) 1 rfl rfl rfl (Nat.le_of_ble_eq_true rfl) dX0_cluster_16 (Nat.zero_le _) (Nat.zero_le _) ?_
    refine lv_goto (tgt := 23) hx hb dX0_cluster_19 (by decide) ?_
    exact z_iret C hlk hr hQ (by first | (rw [if_pos (by omega), Int.toNat_natCast]; done) | (rw [if_neg (by omega)]; done)) dX0_cluster_23
set_option maxHeartbeats 600000 in
set_option maxRecDepth 100000 in
theorem k_X0_odd (l : Launch) (D : va_G) (dA : Nat → ClassId) (a : Nat) (u0 u1 u2 u4 u5 u6 u7 u8 u9 u10 u11 u12 u13 u14 u15 u16 u17 u18 u19 : Value) (sp w le rg st sd qa ql qf up dn : Nat) (fa fl : Nat → Int) (hwl : w * le ≤ 16) (hrg : rg < 2147483648) (ba : ∀ j, -3 ≤ fa j ∧ fa j ≤ 3) (bl : ∀ j, -3 ≤ fl j ∧ fl j ≤ 3) : zM l yX0_odd cX0_odd 3 (some .int) (zRm 3 69) D dA [.ref (a)] [(a, .inr (0, [u0, u1, u2, .ref (sp), u4, u5, u6, u7, u8, u9, u10, u11, u12, u13, u14, u15, u16, u17, u18, u19])), (sp, .inr (4, [.int (zI ((w : Nat) : Int)), .int (zI ((le : Nat) : Int)), .int (zI ((rg : Nat) : Int)), .int (zI ((st : Nat) : Int)), .int (zI ((sd : Nat) : Int)), .ref (qa), .ref (ql), .ref (qf), .int (zI ((up : Nat) : Int)), .int (zI ((dn : Nat) : Int))])), (qa, .inl (dA 3, 16, .inl (fun jz => zI (fa jz)))), (ql, .inl (dA 3, 16, .inl (fun jz => zI (fl jz))))] (some (.int (zI ((cntN (fun k => decide (sqr w le rg fa fl k = 1)) (w * le) : Nat) : Int)))) := by
  refine zM.of (by decide +kernel) rfl ?_
  intro pp ee ss mm args below meth cd Q C hr hlk hQ hP ls hl
  have hx := C.1.1
  have hb := C.1.2.1
  have hl : lv_has ls 3 [(0, .ref (a))] := hl
  refine z_iconst C dX0_odd_0 ?_
  refine lv_istore_n (lv' := [(1, .int (zI 0)), (0, .ref (a))]) hx hb dX0_odd_1 rfl hl (by decide) rfl (fun ls hl => ?_)
  refine z_iconst C dX0_odd_2 ?_
  refine lv_istore_n (lv' := [(2, .int (zI 0)), (1, .int (zI 0)), (0, .ref (a))]) hx hb dX0_odd_3 rfl hl (by decide) rfl (fun ls hl => ?_)
  have L4 : ∀ (N : Nat) (k nn : Nat), (k ≤ w * le) → (nn = cntN (fun k => decide (sqr w le rg fa fl k = 1)) k) → (nn ≤ k) → (w * le - k) < N → ∀ ls : Array Slot, lv_has ls 3 [(0, .ref (a)), (1, .int (zI ((nn : Nat) : Int))), (2, .int (zI ((k : Nat) : Int)))] → W pp l ee (zRm 3 69) ss mm args below meth cd ss.heap [] 0 0 Q (F0 mm 4 ls []) := by
    intro N
    induction N with
    | zero => intro k nn _ _ _ hm; exact absurd hm (Nat.not_lt_zero _)
    | succ N ih4 =>
      intro k nn hk hs hnk hmz4 ls hl
      refine lv_iload_n hx hb dX0_odd_4 rfl (lv_at hl 2 rfl) ?_
      refine lv_aload_n hx hb dX0_odd_5 rfl (lv_at hl 0 rfl) ?_
      refine z_get C hP 0 rfl rfl in_X0 3 (by decide) q528 rfl dX0_odd_6 ?_
      refine z_cV (n := 0) (As := []) (rest := [.int (zI ((k : Nat) : Int))]) C hP (k_X4_sites l D dA (sp) (w) (le) (rg) (st) (sd) (qa) (ql) (qf) (up) (dn)) (lw_V q922 q766 q767 q115 q768) (by decide +kernel) rfl ⟨Nat.le_of_ble_eq_true rfl, Nat.le_of_ble_eq_true rfl⟩ hl.1 (hP.sub [1] rfl) 1 rfl rfl rfl (Nat.le_of_ble_eq_true rfl) dX0_odd_9 (Nat.zero_le _) (Nat.zero_le _) ?_
      refine z_icmp_ge (tgt := 41) C ⟨by omega, by omega⟩ ⟨by omega, by omega⟩ dX0_odd_12 (by decide) (fun c_12 => ?_) (fun c_12 => ?_)
      · refine lv_iload_n hx hb dX0_odd_41 rfl (lv_at hl 1 rfl) ?_
        exact z_iret C hlk hr hQ (by rw [hs, show k = w * le by omega]) dX0_odd_42
      · refine lv_iload_n hx hb dX0_odd_15 rfl (lv_at hl 1 rfl) ?_
        refine lv_aload_n hx hb dX0_odd_16 rfl (lv_at hl 0 rfl) ?_
        refine z_get C hP 0 rfl rfl in_X0 3 (by decide) q528 rfl dX0_odd_17 ?_
        refine lv_iload_n hx hb dX0_odd_20 rfl (lv_at hl 2 rfl) ?_
        refine z_cV (n := 1) (As := [.int (zI ((k : Nat) : Int))]) (rest := [.int (zI ((nn : Nat) : Int))]) C hP (k_X4_square l D dA (sp) (w) (le) (rg) (st) (sd) (qa) (ql) (qf) (up) (dn) (fa) (fl) (k) (by first | with_reducible assumption | omega | with_reducible rfl) (by first | with_reducible assumption | omega | with_reducible rfl) (by first | with_reducible assumption | omega | with_reducible rfl) (by first | with_reducible assumption | omega | with_reducible rfl) (by first | with_reducible assumption | omega | with_reducible rfl)) (lw_V q1614 q1615 q1616 q115 q1617) (by decide +kernel) rfl ⟨Nat.le_of_ble_eq_true rfl, Nat.le_of_ble_eq_true rfl⟩ hl.1 (hP.sub [1, 2, 3] rfl) 1 rfl rfl rfl (Nat.le_of_ble_eq_true rfl) dX0_odd_21 (Nat.zero_le _) (Nat.zero_le _) ?_
        refine z_nm (fun sq_1 e_sq_1 => ?_)
        have sb9 := sqr_b w le rg fa fl k
        rw [← e_sq_1] at sb9
        refine z_iconst C dX0_odd_24 ?_
        refine z_icmp_ne (tgt := 32) C ⟨by omega, by omega⟩ ⟨by decide, by decide⟩ dX0_odd_25 (by decide) (fun c_25 => ?_) (fun c_25 => ?_)
        · refine z_iconst C dX0_odd_32 ?_
          refine z_iaddN C (nn) (0) rfl rfl dX0_odd_33 ?_
          refine lv_istore_n (lv' := [(1, .int (zI (((nn + 0) : Nat) : Int))), (0, .ref (a)), (2, .int (zI ((k : Nat) : Int)))]) hx hb dX0_odd_34 rfl hl (by decide) rfl (fun ls hl => ?_)
          refine lv_iinc (v := zI ((k + 1 : Nat) : Int)) (lv' := [(2, .int (zI ((k + 1 : Nat) : Int))), (1, .int (zI (((nn + 0) : Nat) : Int))), (0, .ref (a))]) hx hb dX0_odd_35 hl (k := 2) rfl (zI_inc (by omega)) (by decide) rfl (fun ls hl => ?_)
          refine lv_goto (tgt := 4) hx hb dX0_odd_38 (by decide) ?_
          exact ih4 (k + 1) ((nn + 0)) (by first | with_reducible assumption | omega | with_reducible rfl) (by first | (rw [cntN_f (decide_eq_false (by rw [← e_sq_1]; exact c_25)), hs]; rfl) | rw [cntN_t (decide_eq_true (by rw [← e_sq_1]; exact c_25)), hs]) (by first | with_reducible assumption | omega | with_reducible rfl) (by omega) ls (lv_sub hl [2, 1, 0] rfl)
        · refine z_iconst C dX0_odd_28 ?_
          refine lv_goto (tgt := 33) hx hb dX0_odd_29 (by decide) ?_
          refine z_iaddN C (nn) (1) rfl rfl dX0_odd_33 ?_
          refine lv_istore_n (lv' := [(1, .int (zI (((nn + 1) : Nat) : Int))), (0, .ref (a)), (2, .int (zI ((k : Nat) : Int)))]) hx hb dX0_odd_34 rfl hl (by decide) rfl (fun ls hl => ?_)
          refine lv_iinc (v := zI ((k + 1 : Nat) : Int)) (lv' := [(2, .int (zI ((k + 1 : Nat) : Int))), (1, .int (zI (((nn + 1) : Nat) : Int))), (0, .ref (a))]) hx hb dX0_odd_35 hl (k := 2) rfl (zI_inc (by omega)) (by decide) rfl (fun ls hl => ?_)
          refine lv_goto (tgt := 4) hx hb dX0_odd_38 (by decide) ?_
          exact ih4 (k + 1) ((nn + 1)) (by first | with_reducible assumption | omega | with_reducible rfl) (by first | (rw [cntN_f (decide_eq_false (by rw [← e_sq_1]; exact c_25)), hs]; rfl) | rw [cntN_t (decide_eq_true (by rw [← e_sq_1]; exact c_25)), hs]) (by first | with_reducible assumption | omega | with_reducible rfl) (by omega) ls (lv_sub hl [2, 1, 0] rfl)
  exact L4 ((w * le - 0) + 1) (0) (0) (by first | with_reducible assumption | omega | with_reducible rfl) rfl (by first | with_reducible assumption | omega | with_reducible rfl) (by omega) ls (lv_sub hl [2, 1, 0] rfl)
set_option maxHeartbeats 600000 in
set_option maxRecDepth 100000 in
theorem k_X0_draw (l : Launch) (D : va_G) (dA : Nat → ClassId) (a : Nat) (u0 u1 u2 u3 u4 u5 u6 u7 u8 u9 u10 u11 u12 u13 u14 u15 u16 u17 u18 : Value) (x : Int) (mn : Nat) (hxb : 0 ≤ x ∧ x ≤ 2147483648) (hm : 0 < mn ∧ mn ≤ 1000) : zG (S := Unit) l yX0_draw cX0_draw 2 (some .int) (zRmW 0 0 0 0) D dA [.ref (a), .int (zI ((mn : Nat) : Int))] [(a, .inr (0, [u0, u1, u2, u3, u4, u5, u6, u7, u8, u9, u10, u11, u12, u13, u14, u15, u16, u17, u18, .long (lI (x))]))] (fun _ : Unit => some (.int (zI (nxt x / 65536 % (mn : Int))))) (fun _ : Unit => True) (fun _ : Unit => [(a, .inr (0, [u0, u1, u2, u3, u4, u5, u6, u7, u8, u9, u10, u11, u12, u13, u14, u15, u16, u17, u18, .long (lI (nxt x))]))]) := by
  refine zG.of (by decide +kernel) rfl ?_
  intro pp ee ss mm args below meth cd Q A C hr hlk hQ hA hin H locs hP hD hS ls hl
  have hx := C.1.1
  have hb := C.1.2.1
  have hl : lv_has ls 2 [(0, .ref (a)), (1, .int (zI ((mn : Nat) : Int)))] := hl
  refine lv_aload_n hx hb dX0_draw_0 rfl (lv_at hl 0 rfl) ?_
  refine lv_aload_n hx hb dX0_draw_1 rfl (lv_at hl 0 rfl) ?_
  refine z_get C hP 0 rfl rfl in_X0 19 (by decide) q544 rfl dX0_draw_2 ?_
  refine z_ldc2 C (1103515245) q927 rfl dX0_draw_5 ?_
  refine z_lmul C dX0_draw_8 ?_
  refine z_ldc2 C (12345) q928 rfl dX0_draw_9 ?_
  refine z_ladd C dX0_draw_12 ?_
  refine z_ldc2 C (2147483648) q929 rfl dX0_draw_13 ?_
  refine z_lrem C ⟨by omega, by omega⟩ ⟨by omega, by omega⟩ dX0_draw_16 ?_
  refine z_put C hP hD hS 0 rfl rfl in_X0 tyX0_ok nmX0 19 (by decide) q544 rfl (v := .long (lI ((((x) * (1103515245)) + (12345)) % (2147483648)))) rfl rfl (Nat.le_of_ble_eq_true rfl) (ws' := [(a, .inr (0, [u0, u1, u2, u3, u4, u5, u6, u7, u8, u9, u10, u11, u12, u13, u14, u15, u16, u17, u18, .long (lI ((((x) * (1103515245)) + (12345)) % (2147483648)))]))]) rfl dX0_draw_17 (fun H locs hP hD hS => ?_)
  refine lv_aload_n hx hb dX0_draw_20 rfl (lv_at hl 0 rfl) ?_
  refine z_get C hP 0 rfl rfl in_X0 19 (by decide) q544 rfl dX0_draw_21 ?_
  refine z_ldc2 C (65536) q930 rfl dX0_draw_24 ?_
  refine z_ldiv C ⟨by omega, by omega⟩ ⟨by omega, by omega⟩ dX0_draw_27 ?_
  refine lv_iload_n hx hb dX0_draw_28 rfl (lv_at hl 1 rfl) ?_
  refine z_i2l C ⟨by omega, by omega⟩ dX0_draw_29 ?_
  refine z_lrem C ⟨by omega, by omega⟩ ⟨by omega, by omega⟩ dX0_draw_30 ?_
  refine z_l2i C dX0_draw_31 ?_
  exact z_iretG C hlk hr hQ () rfl trivial (hP.sub [0] rfl) (hD.sub [0] (by decide) rfl) hS (Nat.le_of_ble_eq_true rfl) (Nat.le_of_ble_eq_true rfl) dX0_draw_32
