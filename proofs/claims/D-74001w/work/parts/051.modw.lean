set_option maxHeartbeats 600000 in
set_option maxRecDepth 100000 in
theorem k_X9_lays (l : Launch) (D : va_G) (dA : Nat → ClassId) (a : Nat) (v0 v3 v4 v5 v6 v7 v8 v9 v10 v11 v12 v13 v14 v15 v16 v17 v18 v19 v20 v21 v22 v23 v24 v25 v26 v27 v28 v29 v30 v31 v32 v33 v34 v35 v36 v37 v38 v39 v40 v41 v42 v43 v44 : Value) (qt tp : Nat) (tf : Nat → Int) (v : Int) (htp : tp + 4 ≤ 2000) (hv : zR v) : zG (S := Unit) l yX9_lays cX9_lays 3 (none) (zRmW 0 0 0 0) D dA [.ref (a), .int (zI (v))] [(a, .inr (9, [v0, .ref (qt), .int (zI ((tp : Nat) : Int)), v3, v4, v5, v6, v7, v8, v9, v10, v11, v12, v13, v14, v15, v16, v17, v18, v19, v20, v21, v22, v23, v24, v25, v26, v27, v28, v29, v30, v31, v32, v33, v34, v35, v36, v37, v38, v39, v40, v41, v42, v43, v44])), (qt, .inl (dA 1, 2000, .inl (fun j => zI (tf j))))] (fun _ : Unit => none) (fun _ : Unit => True) (fun _ : Unit => [(a, .inr (9, [v0, .ref (qt), .int (zI ((tp + 4 : Nat) : Int)), v3, v4, v5, v6, v7, v8, v9, v10, v11, v12, v13, v14, v15, v16, v17, v18, v19, v20, v21, v22, v23, v24, v25, v26, v27, v28, v29, v30, v31, v32, v33, v34, v35, v36, v37, v38, v39, v40, v41, v42, v43, v44])), (qt, .inl (dA 1, 2000, .inl (fun j => zI ((lay4 tf tp v) j))))]) := by
  refine zG.of (by decide +kernel) rfl ?_
  intro pp ee ss mm args below meth cd Q A C hr hlk hQ hA hin H locs hP hD hS ls hl
  have hx := C.1.1
  have hb := C.1.2.1
  have hl : lv_has ls 3 [(0, .ref (a)), (1, .int (zI (v)))] := hl
  refine z_bipush C dX9_lays_0 rfl ?_
  refine lv_istore_n (lv' := [(2, .int (zI 24)), (0, .ref (a)), (1, .int (zI (v)))]) hx hb dX9_lays_2 rfl hl (by decide) rfl (fun ls hl => ?_)
  refine lv_iload_n hx hb dX9_lays_3 rfl (lv_at hl 0 rfl) ?_
  refine z_if_lt (tgt := 36) C ⟨by decide, by decide⟩ dX9_lays_4 (by decide) (fun c => absurd c (by decide)) (fun _ => ?_)
  refine lv_aload_n hx hb dX9_lays_7 rfl (lv_at hl 1 rfl) ?_
  refine z_get C hP 0 rfl rfl in_X9 1 (by decide) q1885 rfl dX9_lays_8 ?_
  refine lv_aload_n hx hb dX9_lays_11 rfl (lv_at hl 1 rfl) ?_
  refine z_get C hP 0 rfl rfl in_X9 2 (by decide) q1886 rfl dX9_lays_12 ?_
  refine lv_iload_n hx hb dX9_lays_15 rfl (lv_at hl 2 rfl) ?_
  refine lv_iload_n hx hb dX9_lays_16 rfl (lv_at hl 0 rfl) ?_
  refine z_ishr C (24) rfl (by omega) ⟨by omega, by omega⟩ dX9_lays_17 ?_
  refine z_i2b C dX9_lays_18 ?_
  have hi8 := i8_b ((v) / 2 ^ 24)
  refine z_bast C hP hD hS 1 rfl (tp) rfl (by omega) (by decide) (v := (i8 ((v) / 2 ^ 24))) ⟨by omega, by omega⟩ (ws' := [(a, .inr (9, [v0, .ref (qt), .int (zI ((tp : Nat) : Int)), v3, v4, v5, v6, v7, v8, v9, v10, v11, v12, v13, v14, v15, v16, v17, v18, v19, v20, v21, v22, v23, v24, v25, v26, v27, v28, v29, v30, v31, v32, v33, v34, v35, v36, v37, v38, v39, v40, v41, v42, v43, v44])), (qt, .inl (dA 1, 2000, .inl (fun j => zI ((va_up tf tp (i8 ((v) / 2 ^ 24))) j))))]) rfl dX9_lays_19 (fun H locs hP hD hS => ?_)
  refine lv_aload_n hx hb dX9_lays_20 rfl (lv_at hl 1 rfl) ?_
  refine lv_dup hx hb dX9_lays_21 rfl ?_
  refine z_get C hP 0 rfl rfl in_X9 2 (by decide) q1886 rfl dX9_lays_22 ?_
  refine z_iconst C dX9_lays_25 ?_
  refine z_iaddN C (tp) (1) rfl rfl dX9_lays_26 ?_
  refine z_put C hP hD hS 0 rfl rfl in_X9 tyX9_ok nmX9 2 (by decide) q1886 rfl (v := .int (zI (((tp + 1) : Nat) : Int))) rfl rfl (Nat.le_of_ble_eq_true rfl) (ws' := [(a, .inr (9, [v0, .ref (qt), .int (zI (((tp + 1) : Nat) : Int)), v3, v4, v5, v6, v7, v8, v9, v10, v11, v12, v13, v14, v15, v16, v17, v18, v19, v20, v21, v22, v23, v24, v25, v26, v27, v28, v29, v30, v31, v32, v33, v34, v35, v36, v37, v38, v39, v40, v41, v42, v43, v44])), (qt, .inl (dA 1, 2000, .inl (fun j => zI ((va_up tf tp (i8 ((v) / 2 ^ 24))) j))))]) rfl dX9_lays_27 (fun H locs hP hD hS => ?_)
  refine lv_iinc (v := zI 16) (lv' := [(2, .int (zI 16)), (0, .ref (a)), (1, .int (zI (v)))]) hx hb dX9_lays_30 hl (k := 0) rfl (zI_inc (by omega)) (by decide) rfl (fun ls hl => ?_)
  refine lv_goto (tgt := 3) hx hb dX9_lays_33 (by decide) ?_
  refine lv_iload_n hx hb dX9_lays_3 rfl (lv_at hl 0 rfl) ?_
  refine z_if_lt (tgt := 36) C ⟨by decide, by decide⟩ dX9_lays_4 (by decide) (fun c => absurd c (by decide)) (fun _ => ?_)
  refine lv_aload_n hx hb dX9_lays_7 rfl (lv_at hl 1 rfl) ?_
  refine z_get C hP 0 rfl rfl in_X9 1 (by decide) q1885 rfl dX9_lays_8 ?_
  refine lv_aload_n hx hb dX9_lays_11 rfl (lv_at hl 1 rfl) ?_
  refine z_get C hP 0 rfl rfl in_X9 2 (by decide) q1886 rfl dX9_lays_12 ?_
  refine lv_iload_n hx hb dX9_lays_15 rfl (lv_at hl 2 rfl) ?_
  refine lv_iload_n hx hb dX9_lays_16 rfl (lv_at hl 0 rfl) ?_
  refine z_ishr C (16) rfl (by omega) ⟨by omega, by omega⟩ dX9_lays_17 ?_
  refine z_i2b C dX9_lays_18 ?_
  have hi8 := i8_b ((v) / 2 ^ 16)
  refine z_bast C hP hD hS 1 rfl ((tp + 1)) rfl (by omega) (by decide) (v := (i8 ((v) / 2 ^ 16))) ⟨by omega, by omega⟩ (ws' := [(a, .inr (9, [v0, .ref (qt), .int (zI (((tp + 1) : Nat) : Int)), v3, v4, v5, v6, v7, v8, v9, v10, v11, v12, v13, v14, v15, v16, v17, v18, v19, v20, v21, v22, v23, v24, v25, v26, v27, v28, v29, v30, v31, v32, v33, v34, v35, v36, v37, v38, v39, v40, v41, v42, v43, v44])), (qt, .inl (dA 1, 2000, .inl (fun j => zI ((va_up (va_up tf tp (i8 ((v) / 2 ^ 24))) (tp + 1) (i8 ((v) / 2 ^ 16))) j))))]) rfl dX9_lays_19 (fun H locs hP hD hS => ?_)
  refine lv_aload_n hx hb dX9_lays_20 rfl (lv_at hl 1 rfl) ?_
  refine lv_dup hx hb dX9_lays_21 rfl ?_
  refine z_get C hP 0 rfl rfl in_X9 2 (by decide) q1886 rfl dX9_lays_22 ?_
  refine z_iconst C dX9_lays_25 ?_
  refine z_iaddN C ((tp + 1)) (1) rfl rfl dX9_lays_26 ?_
  refine z_put C hP hD hS 0 rfl rfl in_X9 tyX9_ok nmX9 2 (by decide) q1886 rfl (v := .int (zI ((((tp + 1) + 1) : Nat) : Int))) rfl rfl (Nat.le_of_ble_eq_true rfl) (ws' := [(a, .inr (9, [v0, .ref (qt), .int (zI ((((tp + 1) + 1) : Nat) : Int)), v3, v4, v5, v6, v7, v8, v9, v10, v11, v12, v13, v14, v15, v16, v17, v18, v19, v20, v21, v22, v23, v24, v25, v26, v27, v28, v29, v30, v31, v32, v33, v34, v35, v36, v37, v38, v39, v40, v41, v42, v43, v44])), (qt, .inl (dA 1, 2000, .inl (fun j => zI ((va_up (va_up tf tp (i8 ((v) / 2 ^ 24))) (tp + 1) (i8 ((v) / 2 ^ 16))) j))))]) rfl dX9_lays_27 (fun H locs hP hD hS => ?_)
  refine lv_iinc (v := zI 8) (lv' := [(2, .int (zI 8)), (0, .ref (a)), (1, .int (zI (v)))]) hx hb dX9_lays_30 hl (k := 0) rfl (zI_inc (by omega)) (by decide) rfl (fun ls hl => ?_)
  refine lv_goto (tgt := 3) hx hb dX9_lays_33 (by decide) ?_
  refine lv_iload_n hx hb dX9_lays_3 rfl (lv_at hl 0 rfl) ?_
  refine z_if_lt (tgt := 36) C ⟨by decide, by decide⟩ dX9_lays_4 (by decide) (fun c => absurd c (by decide)) (fun _ => ?_)
  refine lv_aload_n hx hb dX9_lays_7 rfl (lv_at hl 1 rfl) ?_
  refine z_get C hP 0 rfl rfl in_X9 1 (by decide) q1885 rfl dX9_lays_8 ?_
  refine lv_aload_n hx hb dX9_lays_11 rfl (lv_at hl 1 rfl) ?_
  refine z_get C hP 0 rfl rfl in_X9 2 (by decide) q1886 rfl dX9_lays_12 ?_
  refine lv_iload_n hx hb dX9_lays_15 rfl (lv_at hl 2 rfl) ?_
  refine lv_iload_n hx hb dX9_lays_16 rfl (lv_at hl 0 rfl) ?_
  refine z_ishr C (8) rfl (by omega) ⟨by omega, by omega⟩ dX9_lays_17 ?_
  refine z_i2b C dX9_lays_18 ?_
  have hi8 := i8_b ((v) / 2 ^ 8)
  refine z_bast C hP hD hS 1 rfl (((tp + 1) + 1)) rfl (by omega) (by decide) (v := (i8 ((v) / 2 ^ 8))) ⟨by omega, by omega⟩ (ws' := [(a, .inr (9, [v0, .ref (qt), .int (zI ((((tp + 1) + 1) : Nat) : Int)), v3, v4, v5, v6, v7, v8, v9, v10, v11, v12, v13, v14, v15, v16, v17, v18, v19, v20, v21, v22, v23, v24, v25, v26, v27, v28, v29, v30, v31, v32, v33, v34, v35, v36, v37, v38, v39, v40, v41, v42, v43, v44])), (qt, .inl (dA 1, 2000, .inl (fun j => zI ((va_up (va_up (va_up tf tp (i8 ((v) / 2 ^ 24))) (tp + 1) (i8 ((v) / 2 ^ 16))) ((tp + 1) + 1) (i8 ((v) / 2 ^ 8))) j))))]) rfl dX9_lays_19 (fun H locs hP hD hS => ?_)
  refine lv_aload_n hx hb dX9_lays_20 rfl (lv_at hl 1 rfl) ?_
  refine lv_dup hx hb dX9_lays_21 rfl ?_
  refine z_get C hP 0 rfl rfl in_X9 2 (by decide) q1886 rfl dX9_lays_22 ?_
  refine z_iconst C dX9_lays_25 ?_
  refine z_iaddN C (((tp + 1) + 1)) (1) rfl rfl dX9_lays_26 ?_
  refine z_put C hP hD hS 0 rfl rfl in_X9 tyX9_ok nmX9 2 (by decide) q1886 rfl (v := .int (zI (((((tp + 1) + 1) + 1) : Nat) : Int))) rfl rfl (Nat.le_of_ble_eq_true rfl) (ws' := [(a, .inr (9, [v0, .ref (qt), .int (zI (((((tp + 1) + 1) + 1) : Nat) : Int)), v3, v4, v5, v6, v7, v8, v9, v10, v11, v12, v13, v14, v15, v16, v17, v18, v19, v20, v21, v22, v23, v24, v25, v26, v27, v28, v29, v30, v31, v32, v33, v34, v35, v36, v37, v38, v39, v40, v41, v42, v43, v44])), (qt, .inl (dA 1, 2000, .inl (fun j => zI ((va_up (va_up (va_up tf tp (i8 ((v) / 2 ^ 24))) (tp + 1) (i8 ((v) / 2 ^ 16))) ((tp + 1) + 1) (i8 ((v) / 2 ^ 8))) j))))]) rfl dX9_lays_27 (fun H locs hP hD hS => ?_)
  refine lv_iinc (v := zI 0) (lv' := [(2, .int (zI 0)), (0, .ref (a)), (1, .int (zI (v)))]) hx hb dX9_lays_30 hl (k := 0) rfl (zI_inc (by omega)) (by decide) rfl (fun ls hl => ?_)
  refine lv_goto (tgt := 3) hx hb dX9_lays_33 (by decide) ?_
  refine lv_iload_n hx hb dX9_lays_3 rfl (lv_at hl 0 rfl) ?_
  refine z_if_lt (tgt := 36) C ⟨by decide, by decide⟩ dX9_lays_4 (by decide) (fun c => absurd c (by decide)) (fun _ => ?_)
  refine lv_aload_n hx hb dX9_lays_7 rfl (lv_at hl 1 rfl) ?_
  refine z_get C hP 0 rfl rfl in_X9 1 (by decide) q1885 rfl dX9_lays_8 ?_
  refine lv_aload_n hx hb dX9_lays_11 rfl (lv_at hl 1 rfl) ?_
  refine z_get C hP 0 rfl rfl in_X9 2 (by decide) q1886 rfl dX9_lays_12 ?_
  refine lv_iload_n hx hb dX9_lays_15 rfl (lv_at hl 2 rfl) ?_
  refine lv_iload_n hx hb dX9_lays_16 rfl (lv_at hl 0 rfl) ?_
  refine z_ishr C (0) rfl (by omega) ⟨by omega, by omega⟩ dX9_lays_17 ?_
  refine z_i2b C dX9_lays_18 ?_
  have hi8 := i8_b ((v) / 2 ^ 0)
  refine z_bast C hP hD hS 1 rfl ((((tp + 1) + 1) + 1)) rfl (by omega) (by decide) (v := (i8 ((v) / 2 ^ 0))) ⟨by omega, by omega⟩ (ws' := [(a, .inr (9, [v0, .ref (qt), .int (zI (((((tp + 1) + 1) + 1) : Nat) : Int)), v3, v4, v5, v6, v7, v8, v9, v10, v11, v12, v13, v14, v15, v16, v17, v18, v19, v20, v21, v22, v23, v24, v25, v26, v27, v28, v29, v30, v31, v32, v33, v34, v35, v36, v37, v38, v39, v40, v41, v42, v43, v44])), (qt, .inl (dA 1, 2000, .inl (fun j => zI ((va_up (va_up (va_up (va_up tf tp (i8 ((v) / 2 ^ 24))) (tp + 1) (i8 ((v) / 2 ^ 16))) ((tp + 1) + 1) (i8 ((v) / 2 ^ 8))) (((tp + 1) + 1) + 1) (i8 ((v) / 2 ^ 0))) j))))]) rfl dX9_lays_19 (fun H locs hP hD hS => ?_)
  refine lv_aload_n hx hb dX9_lays_20 rfl (lv_at hl 1 rfl) ?_
  refine lv_dup hx hb dX9_lays_21 rfl ?_
  refine z_get C hP 0 rfl rfl in_X9 2 (by decide) q1886 rfl dX9_lays_22 ?_
  refine z_iconst C dX9_lays_25 ?_
  refine z_iaddN C ((((tp + 1) + 1) + 1)) (1) rfl rfl dX9_lays_26 ?_
  refine z_put C hP hD hS 0 rfl rfl in_X9 tyX9_ok nmX9 2 (by decide) q1886 rfl (v := .int (zI ((((((tp + 1) + 1) + 1) + 1) : Nat) : Int))) rfl rfl (Nat.le_of_ble_eq_true rfl) (ws' := [(a, .inr (9, [v0, .ref (qt), .int (zI ((((((tp + 1) + 1) + 1) + 1) : Nat) : Int)), v3, v4, v5, v6, v7, v8, v9, v10, v11, v12, v13, v14, v15, v16, v17, v18, v19, v20, v21, v22, v23, v24, v25, v26, v27, v28, v29, v30, v31, v32, v33, v34, v35, v36, v37, v38, v39, v40, v41, v42, v43, v44])), (qt, .inl (dA 1, 2000, .inl (fun j => zI ((va_up (va_up (va_up (va_up tf tp (i8 ((v) / 2 ^ 24))) (tp + 1) (i8 ((v) / 2 ^ 16))) ((tp + 1) + 1) (i8 ((v) / 2 ^ 8))) (((tp + 1) + 1) + 1) (i8 ((v) / 2 ^ 0))) j))))]) rfl dX9_lays_27 (fun H locs hP hD hS => ?_)
  refine lv_iinc (v := zI (-8)) (lv' := [(2, .int (zI (-8))), (0, .ref (a)), (1, .int (zI (v)))]) hx hb dX9_lays_30 hl (k := 0) rfl (zI_inc (by omega)) (by decide) rfl (fun ls hl => ?_)
  refine lv_goto (tgt := 3) hx hb dX9_lays_33 (by decide) ?_
  refine lv_iload_n hx hb dX9_lays_3 rfl (lv_at hl 0 rfl) ?_
  refine z_if_lt (tgt := 36) C ⟨by decide, by decide⟩ dX9_lays_4 (by decide) (fun _ => ?_) (fun c => absurd c (by decide))
  exact z_vretG C hlk hr hQ () rfl trivial (hP.sub [0, 1] rfl) (hD.sub [0, 1] (by decide) rfl) hS (Nat.le_of_ble_eq_true rfl) (Nat.le_of_ble_eq_true rfl) dX9_lays_36
set_option maxHeartbeats 600000 in
set_option maxRecDepth 100000 in
theorem k_X9_feed (l : Launch) (D : va_G) (dA : Nat → ClassId) (a : Nat) (v0 v3 v4 v5 v6 v7 v8 v9 v10 v11 v12 v13 v14 v15 v16 v17 v18 v19 v20 v21 v22 v23 v24 v25 v26 v27 v28 v29 v30 v31 v32 v33 v34 v35 v36 v37 v38 v39 v40 v41 v42 v43 v44 : Value) (qt tp : Nat) (tf : Nat → Int) (x1 x2 x3 x4 x5 : Int) (htp : tp + 20 ≤ 2000) (hv1 : zR x1) (hv2 : zR x2) (hv3 : zR x3) (hv4 : zR x4) (hv5 : zR x5) : zG (S := Unit) l yX9_feed cX9_feed 6 (some .int) (zRmW 1 22 0 0) D dA [.ref (a), .int (zI (x1)), .int (zI (x2)), .int (zI (x3)), .int (zI (x4)), .int (zI (x5))] [(a, .inr (9, [v0, .ref (qt), .int (zI ((tp : Nat) : Int)), v3, v4, v5, v6, v7, v8, v9, v10, v11, v12, v13, v14, v15, v16, v17, v18, v19, v20, v21, v22, v23, v24, v25, v26, v27, v28, v29, v30, v31, v32, v33, v34, v35, v36, v37, v38, v39, v40, v41, v42, v43, v44])), (qt, .inl (dA 1, 2000, .inl (fun j => zI (tf j))))] (fun _ : Unit => some (.int (zI ((tp + 20 : Nat) : Int)))) (fun _ : Unit => True) (fun _ : Unit => [(a, .inr (9, [v0, .ref (qt), .int (zI ((tp + 20 : Nat) : Int)), v3, v4, v5, v6, v7, v8, v9, v10, v11, v12, v13, v14, v15, v16, v17, v18, v19, v20, v21, v22, v23, v24, v25, v26, v27, v28, v29, v30, v31, v32, v33, v34, v35, v36, v37, v38, v39, v40, v41, v42, v43, v44])), (qt, .inl (dA 1, 2000, .inl (fun j => zI ((lay4 (lay4 (lay4 (lay4 (lay4 tf tp x1) (tp + 4) x2) (tp + 8) x3) (tp + 12) x4) (tp + 16) x5) j))))]) := by
  refine zG.of (by decide +kernel) rfl ?_
  intro pp ee ss mm args below meth cd Q A C hr hlk hQ hA hin H locs hP hD hS ls hl
  have hx := C.1.1
  have hb := C.1.2.1
  have hl : lv_has ls 6 [(0, .ref (a)), (1, .int (zI (x1))), (2, .int (zI (x2))), (3, .int (zI (x3))), (4, .int (zI (x4))), (5, .int (zI (x5)))] := hl
  refine lv_aload_n hx hb dX9_feed_0 rfl (lv_at hl 0 rfl) ?_
  refine z_get C hP 0 rfl rfl in_X9 2 (by decide) q1886 rfl dX9_feed_1 ?_
  refine z_bipush C dX9_feed_4 rfl ?_
  refine z_iaddN C (tp) (20) rfl rfl dX9_feed_6 ?_
  refine z_sipush C dX9_feed_7 rfl ?_
  refine z_icmp_le (tgt := 15) C ⟨by omega, by omega⟩ ⟨by decide, by decide⟩ dX9_feed_10 (by decide) (fun c_10 => ?_) (fun c_10 => ?_)
  · refine lv_aload_n hx hb dX9_feed_15 rfl (lv_at hl 0 rfl) ?_
    refine lv_iload_n hx hb dX9_feed_16 rfl (lv_at hl 1 rfl) ?_
    refine z_gV (n := 1) (As := [.int (zI (x1))]) (rest := []) (wc := [(a, .inr (9, [v0, .ref (qt), .int (zI ((tp : Nat) : Int)), v3, v4, v5, v6, v7, v8, v9, v10, v11, v12, v13, v14, v15, v16, v17, v18, v19, v20, v21, v22, v23, v24, v25, v26, v27, v28, v29, v30, v31, v32, v33, v34, v35, v36, v37, v38, v39, v40, v41, v42, v43, v44])), (qt, .inl (dA 1, 2000, .inl (fun j => zI (tf j))))]) (wr := []) C hP hD hS hA [0, 1] [] rfl rfl (by decide) (by decide) (by decide) (k_X9_lays l D dA (a) (v0) (v3) (v4) (v5) (v6) (v7) (v8) (v9) (v10) (v11) (v12) (v13) (v14) (v15) (v16) (v17) (v18) (v19) (v20) (v21) (v22) (v23) (v24) (v25) (v26) (v27) (v28) (v29) (v30) (v31) (v32) (v33) (v34) (v35) (v36) (v37) (v38) (v39) (v40) (v41) (v42) (v43) (v44) (qt) (tp) (tf) ((x1)) (by first | with_reducible assumption | omega | with_reducible rfl) (by first | with_reducible assumption | omega | with_reducible rfl)) (lw_V q2024 q2026 qs63 q124 q2027) (by decide +kernel) rfl ⟨Nat.le_of_ble_eq_true rfl, Nat.le_of_ble_eq_true rfl⟩ hl.1 0 rfl rfl rfl (Nat.le_of_ble_eq_true rfl) dX9_feed_17 (by decide) (by decide) (fun _ H locs hp_17 hP hD hS _ => ?_)
    have hP := hP.sub (ws' := [(a, .inr (9, [v0, .ref (qt), .int (zI ((tp + 4 : Nat) : Int)), v3, v4, v5, v6, v7, v8, v9, v10, v11, v12, v13, v14, v15, v16, v17, v18, v19, v20, v21, v22, v23, v24, v25, v26, v27, v28, v29, v30, v31, v32, v33, v34, v35, v36, v37, v38, v39, v40, v41, v42, v43, v44])), (qt, .inl (dA 1, 2000, .inl (fun j => zI ((lay4 tf tp ((x1))) j))))]) [0, 1] rfl
    have hD := hD.sub (ws' := [(a, .inr (9, [v0, .ref (qt), .int (zI ((tp + 4 : Nat) : Int)), v3, v4, v5, v6, v7, v8, v9, v10, v11, v12, v13, v14, v15, v16, v17, v18, v19, v20, v21, v22, v23, v24, v25, v26, v27, v28, v29, v30, v31, v32, v33, v34, v35, v36, v37, v38, v39, v40, v41, v42, v43, v44])), (qt, .inl (dA 1, 2000, .inl (fun j => zI ((lay4 tf tp ((x1))) j))))]) [0, 1] (by decide) rfl
    refine W.widen (k := 0) (n := 0) (Nat.le_of_ble_eq_true rfl) (Nat.le_of_ble_eq_true rfl) ?_
    refine lv_aload_n hx hb dX9_feed_20 rfl (lv_at hl 0 rfl) ?_
    refine lv_iload_n hx hb dX9_feed_21 rfl (lv_at hl 2 rfl) ?_
    refine z_gV (n := 1) (As := [.int (zI (x2))]) (rest := []) (wc := [(a, .inr (9, [v0, .ref (qt), .int (zI ((tp + 4 : Nat) : Int)), v3, v4, v5, v6, v7, v8, v9, v10, v11, v12, v13, v14, v15, v16, v17, v18, v19, v20, v21, v22, v23, v24, v25, v26, v27, v28, v29, v30, v31, v32, v33, v34, v35, v36, v37, v38, v39, v40, v41, v42, v43, v44])), (qt, .inl (dA 1, 2000, .inl (fun j => zI ((lay4 tf tp ((x1))) j))))]) (wr := []) C hP hD hS hA [0, 1] [] rfl rfl (by decide) (by decide) (by decide) (k_X9_lays l D dA (a) (v0) (v3) (v4) (v5) (v6) (v7) (v8) (v9) (v10) (v11) (v12) (v13) (v14) (v15) (v16) (v17) (v18) (v19) (v20) (v21) (v22) (v23) (v24) (v25) (v26) (v27) (v28) (v29) (v30) (v31) (v32) (v33) (v34) (v35) (v36) (v37) (v38) (v39) (v40) (v41) (v42) (v43) (v44) (qt) (tp + 4) ((lay4 tf tp ((x1)))) ((x2)) (by first | with_reducible assumption | omega | with_reducible rfl) (by first | with_reducible assumption | omega | with_reducible rfl)) (lw_V q2024 q2026 qs63 q124 q2027) (by decide +kernel) rfl ⟨Nat.le_of_ble_eq_true rfl, Nat.le_of_ble_eq_true rfl⟩ hl.1 0 rfl rfl rfl (Nat.le_of_ble_eq_true rfl) dX9_feed_22 (by decide) (by decide) (fun _ H locs hp_22 hP hD hS _ => ?_)
    have hP := hP.sub (ws' := [(a, .inr (9, [v0, .ref (qt), .int (zI (((tp + 4) + 4 : Nat) : Int)), v3, v4, v5, v6, v7, v8, v9, v10, v11, v12, v13, v14, v15, v16, v17, v18, v19, v20, v21, v22, v23, v24, v25, v26, v27, v28, v29, v30, v31, v32, v33, v34, v35, v36, v37, v38, v39, v40, v41, v42, v43, v44])), (qt, .inl (dA 1, 2000, .inl (fun j => zI ((lay4 ((lay4 tf tp ((x1)))) (tp + 4) ((x2))) j))))]) [0, 1] rfl
    have hD := hD.sub (ws' := [(a, .inr (9, [v0, .ref (qt), .int (zI (((tp + 4) + 4 : Nat) : Int)), v3, v4, v5, v6, v7, v8, v9, v10, v11, v12, v13, v14, v15, v16, v17, v18, v19, v20, v21, v22, v23, v24, v25, v26, v27, v28, v29, v30, v31, v32, v33, v34, v35, v36, v37, v38, v39, v40, v41, v42, v43, v44])), (qt, .inl (dA 1, 2000, .inl (fun j => zI ((lay4 ((lay4 tf tp ((x1)))) (tp + 4) ((x2))) j))))]) [0, 1] (by decide) rfl
    refine W.widen (k := 0) (n := 0) (Nat.le_of_ble_eq_true rfl) (Nat.le_of_ble_eq_true rfl) ?_
    refine lv_aload_n hx hb dX9_feed_25 rfl (lv_at hl 0 rfl) ?_
    refine lv_iload_n hx hb dX9_feed_26 rfl (lv_at hl 3 rfl) ?_
    refine z_gV (n := 1) (As := [.int (zI (x3))]) (rest := []) (wc := [(a, .inr (9, [v0, .ref (qt), .int (zI (((tp + 4) + 4 : Nat) : Int)), v3, v4, v5, v6, v7, v8, v9, v10, v11, v12, v13, v14, v15, v16, v17, v18, v19, v20, v21, v22, v23, v24, v25, v26, v27, v28, v29, v30, v31, v32, v33, v34, v35, v36, v37, v38, v39, v40, v41, v42, v43, v44])), (qt, .inl (dA 1, 2000, .inl (fun j => zI ((lay4 ((lay4 tf tp ((x1)))) (tp + 4) ((x2))) j))))]) (wr := []) C hP hD hS hA [0, 1] [] rfl rfl (by decide) (by decide) (by decide) (k_X9_lays l D dA (a) (v0) (v3) (v4) (v5) (v6) (v7) (v8) (v9) (v10) (v11) (v12) (v13) (v14) (v15) (v16) (v17) (v18) (v19) (v20) (v21) (v22) (v23) (v24) (v25) (v26) (v27) (v28) (v29) (v30) (v31) (v32) (v33) (v34) (v35) (v36) (v37) (v38) (v39) (v40) (v41) (v42) (v43) (v44) (qt) ((tp + 4) + 4) ((lay4 ((lay4 tf tp ((x1)))) (tp + 4) ((x2)))) ((x3)) (by first | with_reducible assumption | omega | with_reducible rfl) (by first | with_reducible assumption | omega | with_reducible rfl)) (lw_V q2024 q2026 qs63 q124 q2027) (by decide +kernel) rfl ⟨Nat.le_of_ble_eq_true rfl, Nat.le_of_ble_eq_true rfl⟩ hl.1 0 rfl rfl rfl (Nat.le_of_ble_eq_true rfl) dX9_feed_27 (by decide) (by decide) (fun _ H locs hp_27 hP hD hS _ => ?_)
    have hP := hP.sub (ws' := [(a, .inr (9, [v0, .ref (qt), .int (zI ((((tp + 4) + 4) + 4 : Nat) : Int)), v3, v4, v5, v6, v7, v8, v9, v10, v11, v12, v13, v14, v15, v16, v17, v18, v19, v20, v21, v22, v23, v24, v25, v26, v27, v28, v29, v30, v31, v32, v33, v34, v35, v36, v37, v38, v39, v40, v41, v42, v43, v44])), (qt, .inl (dA 1, 2000, .inl (fun j => zI ((lay4 ((lay4 ((lay4 tf tp ((x1)))) (tp + 4) ((x2)))) ((tp + 4) + 4) ((x3))) j))))]) [0, 1] rfl
    have hD := hD.sub (ws' := [(a, .inr (9, [v0, .ref (qt), .int (zI ((((tp + 4) + 4) + 4 : Nat) : Int)), v3, v4, v5, v6, v7, v8, v9, v10, v11, v12, v13, v14, v15, v16, v17, v18, v19, v20, v21, v22, v23, v24, v25, v26, v27, v28, v29, v30, v31, v32, v33, v34, v35, v36, v37, v38, v39, v40, v41, v42, v43, v44])), (qt, .inl (dA 1, 2000, .inl (fun j => zI ((lay4 ((lay4 ((lay4 tf tp ((x1)))) (tp + 4) ((x2)))) ((tp + 4) + 4) ((x3))) j))))]) [0, 1] (by decide) rfl
    refine W.widen (k := 0) (n := 0) (Nat.le_of_ble_eq_true rfl) (Nat.le_of_ble_eq_true rfl) ?_
    refine lv_aload_n hx hb dX9_feed_30 rfl (lv_at hl 0 rfl) ?_
    refine lv_iload hx hb dX9_feed_31 (lv_at hl 4 rfl) ?_
    refine z_gV (n := 1) (As := [.int (zI (x4))]) (rest := []) (wc := [(a, .inr (9, [v0, .ref (qt), .int (zI ((((tp + 4) + 4) + 4 : Nat) : Int)), v3, v4, v5, v6, v7, v8, v9, v10, v11, v12, v13, v14, v15, v16, v17, v18, v19, v20, v21, v22, v23, v24, v25, v26, v27, v28, v29, v30, v31, v32, v33, v34, v35, v36, v37, v38, v39, v40, v41, v42, v43, v44])), (qt, .inl (dA 1, 2000, .inl (fun j => zI ((lay4 ((lay4 ((lay4 tf tp ((x1)))) (tp + 4) ((x2)))) ((tp + 4) + 4) ((x3))) j))))]) (wr := []) C hP hD hS hA [0, 1] [] rfl rfl (by decide) (by decide) (by decide) (k_X9_lays l D dA (a) (v0) (v3) (v4) (v5) (v6) (v7) (v8) (v9) (v10) (v11) (v12) (v13) (v14) (v15) (v16) (v17) (v18) (v19) (v20) (v21) (v22) (v23) (v24) (v25) (v26) (v27) (v28) (v29) (v30) (v31) (v32) (v33) (v34) (v35) (v36) (v37) (v38) (v39) (v40) (v41) (v42) (v43) (v44) (qt) (((tp + 4) + 4) + 4) ((lay4 ((lay4 ((lay4 tf tp ((x1)))) (tp + 4) ((x2)))) ((tp + 4) + 4) ((x3)))) ((x4)) (by first | with_reducible assumption | omega | with_reducible rfl) (by first | with_reducible assumption | omega | with_reducible rfl)) (lw_V q2024 q2026 qs63 q124 q2027) (by decide +kernel) rfl ⟨Nat.le_of_ble_eq_true rfl, Nat.le_of_ble_eq_true rfl⟩ hl.1 0 rfl rfl rfl (Nat.le_of_ble_eq_true rfl) dX9_feed_33 (by decide) (by decide) (fun _ H locs hp_33 hP hD hS _ => ?_)
    have hP := hP.sub (ws' := [(a, .inr (9, [v0, .ref (qt), .int (zI (((((tp + 4) + 4) + 4) + 4 : Nat) : Int)), v3, v4, v5, v6, v7, v8, v9, v10, v11, v12, v13, v14, v15, v16, v17, v18, v19, v20, v21, v22, v23, v24, v25, v26, v27, v28, v29, v30, v31, v32, v33, v34, v35, v36, v37, v38, v39, v40, v41, v42, v43, v44])), (qt, .inl (dA 1, 2000, .inl (fun j => zI ((lay4 ((lay4 ((lay4 ((lay4 tf tp ((x1)))) (tp + 4) ((x2)))) ((tp + 4) + 4) ((x3)))) (((tp + 4) + 4) + 4) ((x4))) j))))]) [0, 1] rfl
    have hD := hD.sub (ws' := [(a, .inr (9, [v0, .ref (qt), .int (zI (((((tp + 4) + 4) + 4) + 4 : Nat) : Int)), v3, v4, v5, v6, v7, v8, v9, v10, v11, v12, v13, v14, v15, v16, v17, v18, v19, v20, v21, v22, v23, v24, v25, v26, v27, v28, v29, v30, v31, v32, v33, v34, v35, v36, v37, v38, v39, v40, v41, v42, v43, v44])), (qt, .inl (dA 1, 2000, .inl (fun j => zI ((lay4 ((lay4 ((lay4 ((lay4 tf tp ((x1)))) (tp + 4) ((x2)))) ((tp + 4) + 4) ((x3)))) (((tp + 4) + 4) + 4) ((x4))) j))))]) [0, 1] (by decide) rfl
    refine W.widen (k := 0) (n := 0) (Nat.le_of_ble_eq_true rfl) (Nat.le_of_ble_eq_true rfl) ?_
    refine lv_aload_n hx hb dX9_feed_36 rfl (lv_at hl 0 rfl) ?_
    refine lv_iload hx hb dX9_feed_37 (lv_at hl 5 rfl) ?_
    refine z_gV (n := 1) (As := [.int (zI (x5))]) (rest := []) (wc := [(a, .inr (9, [v0, .ref (qt), .int (zI (((((tp + 4) + 4) + 4) + 4 : Nat) : Int)), v3, v4, v5, v6, v7, v8, v9, v10, v11, v12, v13, v14, v15, v16, v17, v18, v19, v20, v21, v22, v23, v24, v25, v26, v27, v28, v29, v30, v31, v32, v33, v34, v35, v36, v37, v38, v39, v40, v41, v42, v43, v44])), (qt, .inl (dA 1, 2000, .inl (fun j => zI ((lay4 ((lay4 ((lay4 ((lay4 tf tp ((x1)))) (tp + 4) ((x2)))) ((tp + 4) + 4) ((x3)))) (((tp + 4) + 4) + 4) ((x4))) j))))]) (wr := []) C hP hD hS hA [0, 1] [] rfl rfl (by decide) (by decide) (by decide) (k_X9_lays l D dA (a) (v0) (v3) (v4) (v5) (v6) (v7) (v8) (v9) (v10) (v11) (v12) (v13) (v14) (v15) (v16) (v17) (v18) (v19) (v20) (v21) (v22) (v23) (v24) (v25) (v26) (v27) (v28) (v29) (v30) (v31) (v32) (v33) (v34) (v35) (v36) (v37) (v38) (v39) (v40) (v41) (v42) (v43) (v44) (qt) ((((tp + 4) + 4) + 4) + 4) ((lay4 ((lay4 ((lay4 ((lay4 tf tp ((x1)))) (tp + 4) ((x2)))) ((tp + 4) + 4) ((x3)))) (((tp + 4) + 4) + 4) ((x4)))) ((x5)) (by first | with_reducible assumption | omega | with_reducible rfl) (by first | with_reducible assumption | omega | with_reducible rfl)) (lw_V q2024 q2026 qs63 q124 q2027) (by decide +kernel) rfl ⟨Nat.le_of_ble_eq_true rfl, Nat.le_of_ble_eq_true rfl⟩ hl.1 0 rfl rfl rfl (Nat.le_of_ble_eq_true rfl) dX9_feed_39 (by decide) (by decide) (fun _ H locs hp_39 hP hD hS _ => ?_)
    have hP := hP.sub (ws' := [(a, .inr (9, [v0, .ref (qt), .int (zI ((((((tp + 4) + 4) + 4) + 4) + 4 : Nat) : Int)), v3, v4, v5, v6, v7, v8, v9, v10, v11, v12, v13, v14, v15, v16, v17, v18, v19, v20, v21, v22, v23, v24, v25, v26, v27, v28, v29, v30, v31, v32, v33, v34, v35, v36, v37, v38, v39, v40, v41, v42, v43, v44])), (qt, .inl (dA 1, 2000, .inl (fun j => zI ((lay4 ((lay4 ((lay4 ((lay4 ((lay4 tf tp ((x1)))) (tp + 4) ((x2)))) ((tp + 4) + 4) ((x3)))) (((tp + 4) + 4) + 4) ((x4)))) ((((tp + 4) + 4) + 4) + 4) ((x5))) j))))]) [0, 1] rfl
    have hD := hD.sub (ws' := [(a, .inr (9, [v0, .ref (qt), .int (zI ((((((tp + 4) + 4) + 4) + 4) + 4 : Nat) : Int)), v3, v4, v5, v6, v7, v8, v9, v10, v11, v12, v13, v14, v15, v16, v17, v18, v19, v20, v21, v22, v23, v24, v25, v26, v27, v28, v29, v30, v31, v32, v33, v34, v35, v36, v37, v38, v39, v40, v41, v42, v43, v44])), (qt, .inl (dA 1, 2000, .inl (fun j => zI ((lay4 ((lay4 ((lay4 ((lay4 ((lay4 tf tp ((x1)))) (tp + 4) ((x2)))) ((tp + 4) + 4) ((x3)))) (((tp + 4) + 4) + 4) ((x4)))) ((((tp + 4) + 4) + 4) + 4) ((x5))) j))))]) [0, 1] (by decide) rfl
    refine W.widen (k := 0) (n := 0) (Nat.le_of_ble_eq_true rfl) (Nat.le_of_ble_eq_true rfl) ?_
    refine lv_aload_n hx hb dX9_feed_42 rfl (lv_at hl 0 rfl) ?_
    refine z_get C hP 0 rfl rfl in_X9 2 (by decide) q1886 rfl dX9_feed_43 ?_
    exact z_iretG C hlk hr hQ () rfl trivial (hP.sub [0, 1] rfl) (hD.sub [0, 1] (by decide) rfl) hS (Nat.le_of_ble_eq_true rfl) (Nat.le_of_ble_eq_true rfl) dX9_feed_46
  · exact absurd c_10 (by omega)
set_option maxHeartbeats 600000 in
set_option maxRecDepth 100000 in
theorem k_X9_back (l : Launch) (D : va_G) (dA : Nat → ClassId) (a : Nat) (v0 v3 v4 v5 v6 v7 v8 v9 v10 v11 v12 v13 v14 v15 v16 v17 v18 v19 v20 v21 v22 v23 v24 v25 v26 v27 v28 v29 v30 v31 v32 v33 v34 v35 v36 v37 v38 v39 v40 v41 v42 v43 v44 : Value) (qt tp : Nat) (tf : Nat → Int) (k : Nat) (hk : k ≤ tp) (htp : tp ≤ 2000) : zG (S := Unit) l yX9_back cX9_back 2 (some .int) (zRmW 0 0 0 0) D dA [.ref (a), .int (zI ((k : Nat) : Int))] [(a, .inr (9, [v0, .ref (qt), .int (zI ((tp : Nat) : Int)), v3, v4, v5, v6, v7, v8, v9, v10, v11, v12, v13, v14, v15, v16, v17, v18, v19, v20, v21, v22, v23, v24, v25, v26, v27, v28, v29, v30, v31, v32, v33, v34, v35, v36, v37, v38, v39, v40, v41, v42, v43, v44]))] (fun _ : Unit => some (.int (zI ((tp - k : Nat) : Int)))) (fun _ : Unit => True) (fun _ : Unit => [(a, .inr (9, [v0, .ref (qt), .int (zI ((tp - k : Nat) : Int)), v3, v4, v5, v6, v7, v8, v9, v10, v11, v12, v13, v14, v15, v16, v17, v18, v19, v20, v21, v22, v23, v24, v25, v26, v27, v28, v29, v30, v31, v32, v33, v34, v35, v36, v37, v38, v39, v40, v41, v42, v43, v44]))]) := by
  refine zG.of (by decide +kernel) rfl ?_
  intro pp ee ss mm args below meth cd Q A C hr hlk hQ hA hin H locs hP hD hS ls hl
  have hx := C.1.1
  have hb := C.1.2.1
  have hl : lv_has ls 2 [(0, .ref (a)), (1, .int (zI ((k : Nat) : Int)))] := hl
  refine lv_iload_n hx hb dX9_back_0 rfl (lv_at hl 1 rfl) ?_
  refine z_if_lt (tgt := 12) C ⟨by omega, by omega⟩ dX9_back_1 (by decide) (fun c_1 => ?_) (fun c_1 => ?_)
  · exact absurd c_1 (by omega)
  · refine lv_iload_n hx hb dX9_back_4 rfl (lv_at hl 1 rfl) ?_
    refine lv_aload_n hx hb dX9_back_5 rfl (lv_at hl 0 rfl) ?_
    refine z_get C hP 0 rfl rfl in_X9 2 (by decide) q1886 rfl dX9_back_6 ?_
    refine z_icmp_le (tgt := 14) C ⟨by omega, by omega⟩ ⟨by omega, by omega⟩ dX9_back_9 (by decide) (fun c_9 => ?_) (fun c_9 => ?_)
    · refine lv_aload_n hx hb dX9_back_14 rfl (lv_at hl 0 rfl) ?_
      refine lv_dup hx hb dX9_back_15 rfl ?_
      refine z_get C hP 0 rfl rfl in_X9 2 (by decide) q1886 rfl dX9_back_16 ?_
      refine lv_iload_n hx hb dX9_back_19 rfl (lv_at hl 1 rfl) ?_
      refine z_isubN C (tp) (k) rfl rfl hk dX9_back_20 ?_
      refine z_put C hP hD hS 0 rfl rfl in_X9 tyX9_ok nmX9 2 (by decide) q1886 rfl (v := .int (zI (((tp - k) : Nat) : Int))) rfl rfl (Nat.le_of_ble_eq_true rfl) (ws' := [(a, .inr (9, [v0, .ref (qt), .int (zI (((tp - k) : Nat) : Int)), v3, v4, v5, v6, v7, v8, v9, v10, v11, v12, v13, v14, v15, v16, v17, v18, v19, v20, v21, v22, v23, v24, v25, v26, v27, v28, v29, v30, v31, v32, v33, v34, v35, v36, v37, v38, v39, v40, v41, v42, v43, v44]))]) rfl dX9_back_21 (fun H locs hP hD hS => ?_)
      refine lv_aload_n hx hb dX9_back_24 rfl (lv_at hl 0 rfl) ?_
      refine z_get C hP 0 rfl rfl in_X9 2 (by decide) q1886 rfl dX9_back_25 ?_
      exact z_iretG C hlk hr hQ () rfl trivial (hP.sub [0] rfl) (hD.sub [0] (by decide) rfl) hS (Nat.le_of_ble_eq_true rfl) (Nat.le_of_ble_eq_true rfl) dX9_back_28
    · exact absurd c_9 (by omega)
set_option maxHeartbeats 600000 in
set_option maxRecDepth 100000 in
theorem k_X9_back_out (l : Launch) (D : va_G) (dA : Nat → ClassId) (a : Nat) (v0 v3 v4 v5 v6 v7 v8 v9 v10 v11 v12 v13 v14 v15 v16 v17 v18 v19 v20 v21 v22 v23 v24 v25 v26 v27 v28 v29 v30 v31 v32 v33 v34 v35 v36 v37 v38 v39 v40 v41 v42 v43 v44 : Value) (qt tp : Nat) (tf : Nat → Int) (k : Int) (hk : k < 0 ∨ (tp : Int) < k) (hz : zR k) (htp : tp ≤ 2000) : zM l yX9_back cX9_back 2 (some .int) (zRm 0 0) D dA [.ref (a), .int (zI (k))] [(a, .inr (9, [v0, .ref (qt), .int (zI ((tp : Nat) : Int)), v3, v4, v5, v6, v7, v8, v9, v10, v11, v12, v13, v14, v15, v16, v17, v18, v19, v20, v21, v22, v23, v24, v25, v26, v27, v28, v29, v30, v31, v32, v33, v34, v35, v36, v37, v38, v39, v40, v41, v42, v43, v44]))] (some (.int (zI (-1)))) := by
  refine zM.of (by decide +kernel) rfl ?_
  intro pp ee ss mm args below meth cd Q C hr hlk hQ hP ls hl
  have hx := C.1.1
  have hb := C.1.2.1
  have hl : lv_has ls 2 [(0, .ref (a)), (1, .int (zI (k)))] := hl
  refine lv_iload_n hx hb dX9_back_0 rfl (lv_at hl 1 rfl) ?_
  refine z_if_lt (tgt := 12) C ⟨by omega, by omega⟩ dX9_back_1 (by decide) (fun c_1 => ?_) (fun c_1 => ?_)
  · refine z_iconst C dX9_back_12 ?_
    exact z_iret C hlk hr hQ (by first | rfl | omega) dX9_back_13
  · refine lv_iload_n hx hb dX9_back_4 rfl (lv_at hl 1 rfl) ?_
    refine lv_aload_n hx hb dX9_back_5 rfl (lv_at hl 0 rfl) ?_
    refine z_get C hP 0 rfl rfl in_X9 2 (by decide) q1886 rfl dX9_back_6 ?_
    refine z_icmp_le (tgt := 14) C ⟨by omega, by omega⟩ ⟨by omega, by omega⟩ dX9_back_9 (by decide) (fun c_9 => ?_) (fun c_9 => ?_)
    · exact absurd hk (by omega)
    · refine z_iconst C dX9_back_12 ?_
      exact z_iret C hlk hr hQ (by first | rfl | omega) dX9_back_13
set_option maxHeartbeats 600000 in
set_option maxRecDepth 100000 in
theorem k_X9_marks (l : Launch) (D : va_G) (dA : Nat → ClassId) (a : Nat) (v0 v1 v2 v3 v4 v5 v6 v7 v8 v9 v10 v11 v12 v13 v14 v15 v16 v22 v23 v24 v25 v26 v33 v34 v35 v36 v37 v38 v39 v40 v41 v42 v43 v44 : Value) (w le es un qn qr qh qi : Nat) (ra rl kn : Bool) (nw er : Nat → Int) (hes : es < 40) (hun : un < 40) : zG (S := Unit) l yX9_marks cX9_marks 3 (none) (zRmW 0 0 0 0) D dA [.ref (a)] [(a, .inr (9, [v0, v1, v2, v3, v4, v5, v6, v7, v8, v9, v10, v11, v12, v13, v14, v15, v16, .int (zI ((w : Nat) : Int)), .int (zI ((le : Nat) : Int)), .int (zB (ra)), .int (zB (rl)), .ref (qn), v22, v23, v24, v25, v26, .ref (qr), .int (zI ((es : Nat) : Int)), .int (zI ((un : Nat) : Int)), .ref (qh), .ref (qi), .int (zB (kn)), v33, v34, v35, v36, v37, v38, v39, v40, v41, v42, v43, v44])), (qn, .inl (dA 3, 66, .inl (fun j => zI (nw j)))), (qr, .inl (dA 3, 2640, .inl (fun j => zI (er j))))] (fun _ : Unit => none) (fun _ : Unit => True) (fun _ : Unit => [(a, .inr (9, [v0, v1, v2, v3, v4, v5, v6, v7, v8, v9, v10, v11, v12, v13, v14, v15, v16, .int (zI ((w : Nat) : Int)), .int (zI ((le : Nat) : Int)), .int (zB (ra)), .int (zB (rl)), .ref (qn), v22, v23, v24, v25, v26, .ref (qr), .int (zI ((es : Nat) : Int)), .int (zI ((un + 1 : Nat) : Int)), .ref (qh), .ref (qi), .int (zB (kn)), v33, v34, v35, v36, v37, v38, v39, v40, v41, v42, v43, v44])), (qn, .inl (dA 3, 66, .inl (fun j => zI (nw j)))), (qr, .inl (dA 3, 2640, .inl (fun j => zI ((cpN er (fun i => 66 * ((es + un) % 40) + i) nw (fun i => i) 66) j))))]) := by
  refine zG.of (by decide +kernel) rfl ?_
  intro pp ee ss mm args below meth cd Q A C hr hlk hQ hA hin H locs hP hD hS ls hl
  have hx := C.1.1
  have hb := C.1.2.1
  have hl : lv_has ls 3 [(0, .ref (a))] := hl
  refine lv_aload_n hx hb dX9_marks_0 rfl (lv_at hl 0 rfl) ?_
  refine z_get C hP 0 rfl rfl in_X9 29 (by decide) q1913 rfl dX9_marks_1 ?_
  refine z_bipush C dX9_marks_4 rfl ?_
  refine z_icmp_ne (tgt := 32) C ⟨by omega, by omega⟩ ⟨by decide, by decide⟩ dX9_marks_6 (by decide) (fun c_6 => ?_) (fun c_6 => ?_)
  · refine z_bipush C dX9_marks_32 rfl ?_
    refine lv_aload_n hx hb dX9_marks_34 rfl (lv_at hl 0 rfl) ?_
    refine z_get C hP 0 rfl rfl in_X9 28 (by decide) q1912 rfl dX9_marks_35 ?_
    refine lv_aload_n hx hb dX9_marks_38 rfl (lv_at hl 0 rfl) ?_
    refine z_get C hP 0 rfl rfl in_X9 29 (by decide) q1913 rfl dX9_marks_39 ?_
    refine z_iaddN C (es) (un) rfl rfl dX9_marks_42 ?_
    refine z_bipush C dX9_marks_43 rfl ?_
    refine z_iremN C ((es + un)) (40) rfl rfl (by omega) ⟨by omega, by omega⟩ dX9_marks_45 ?_
    refine z_imulN C (66) (((es + un) % 40)) rfl rfl dX9_marks_46 ?_
    refine z_nmN (fun at__1 e_at__1 => ?_)
    have hat : at__1 ≤ 2574 := by omega
    refine lv_istore_n (lv' := [(1, .int (zI ((at__1 : Nat) : Int))), (0, .ref (a))]) hx hb dX9_marks_47 rfl hl (by decide) rfl (fun ls hl => ?_)
    refine z_iconst C dX9_marks_48 ?_
    refine lv_istore_n (lv' := [(2, .int (zI 0)), (1, .int (zI ((at__1 : Nat) : Int))), (0, .ref (a))]) hx hb dX9_marks_49 rfl hl (by decide) rfl (fun ls hl => ?_)
    have L50 : ∀ (N : Nat) (i : Nat), (i ≤ 66) → (66 - i) < N → ∀ (H : Heap) (locs : List Loc), va_P D vwCl [(a, .inr (9, [v0, v1, v2, v3, v4, v5, v6, v7, v8, v9, v10, v11, v12, v13, v14, v15, v16, .int (zI ((w : Nat) : Int)), .int (zI ((le : Nat) : Int)), .int (zB (ra)), .int (zB (rl)), .ref (qn), v22, v23, v24, v25, v26, .ref (qr), .int (zI ((es : Nat) : Int)), .int (zI ((un : Nat) : Int)), .ref (qh), .ref (qi), .int (zB (kn)), v33, v34, v35, v36, v37, v38, v39, v40, v41, v42, v43, v44])), (qn, .inl (dA 3, 66, .inl (fun j => zI (nw j)))), (qr, .inl (dA 3, 2640, .inl (fun j => zI ((cpN er (fun i => at__1 + i) nw (fun i => i) i) j))))] H → va_D A [(a, .inr (9, [v0, v1, v2, v3, v4, v5, v6, v7, v8, v9, v10, v11, v12, v13, v14, v15, v16, .int (zI ((w : Nat) : Int)), .int (zI ((le : Nat) : Int)), .int (zB (ra)), .int (zB (rl)), .ref (qn), v22, v23, v24, v25, v26, .ref (qr), .int (zI ((es : Nat) : Int)), .int (zI ((un : Nat) : Int)), .ref (qh), .ref (qi), .int (zB (kn)), v33, v34, v35, v36, v37, v38, v39, v40, v41, v42, v43, v44])), (qn, .inl (dA 3, 66, .inl (fun j => zI (nw j)))), (qr, .inl (dA 3, 2640, .inl (fun j => zI ((cpN er (fun i => at__1 + i) nw (fun i => i) i) j))))] → va_S A ss.heap H locs → ∀ ls : Array Slot, lv_has ls 3 [(0, .ref (a)), (1, .int (zI ((at__1 : Nat) : Int))), (2, .int (zI ((i : Nat) : Int)))] → W pp l ee (zRmW 0 0 0 0) ss mm args below meth cd H locs 0 0 Q (F0 mm 50 ls []) := by
      intro N
      induction N with
      | zero => intro i _ hm; exact absurd hm (Nat.not_lt_zero _)
      | succ N ih50 =>
        intro i hi hmz50 H locs hP hD hS ls hl
        refine lv_iload_n hx hb dX9_marks_50 rfl (lv_at hl 2 rfl) ?_
        refine z_bipush C dX9_marks_51 rfl ?_
        refine z_icmp_ge (tgt := 76) C ⟨by omega, by omega⟩ ⟨by decide, by decide⟩ dX9_marks_53 (by decide) (fun c_53 => ?_) (fun c_53 => ?_)
        · refine lv_aload_n hx hb dX9_marks_76 rfl (lv_at hl 0 rfl) ?_
          refine lv_dup hx hb dX9_marks_77 rfl ?_
          refine z_get C hP 0 rfl rfl in_X9 29 (by decide) q1913 rfl dX9_marks_78 ?_
          refine z_iconst C dX9_marks_81 ?_
          refine z_iaddN C (un) (1) rfl rfl dX9_marks_82 ?_
          refine z_put C hP hD hS 0 rfl rfl in_X9 tyX9_ok nmX9 29 (by decide) q1913 rfl (v := .int (zI (((un + 1) : Nat) : Int))) rfl rfl (Nat.le_of_ble_eq_true rfl) (ws' := [(a, .inr (9, [v0, v1, v2, v3, v4, v5, v6, v7, v8, v9, v10, v11, v12, v13, v14, v15, v16, .int (zI ((w : Nat) : Int)), .int (zI ((le : Nat) : Int)), .int (zB (ra)), .int (zB (rl)), .ref (qn), v22, v23, v24, v25, v26, .ref (qr), .int (zI ((es : Nat) : Int)), .int (zI (((un + 1) : Nat) : Int)), .ref (qh), .ref (qi), .int (zB (kn)), v33, v34, v35, v36, v37, v38, v39, v40, v41, v42, v43, v44])), (qn, .inl (dA 3, 66, .inl (fun j => zI (nw j)))), (qr, .inl (dA 3, 2640, .inl (fun j => zI ((cpN er (fun i => at__1 + i) nw (fun i => i) i) j))))]) rfl dX9_marks_83 (fun H locs hP hD hS => ?_)
          obtain rfl : i = 66 := by omega
          rw [e_at__1] at hP hD
          exact z_vretG C hlk hr hQ () rfl trivial (hP.sub [0, 1, 2] rfl) (hD.sub [0, 1, 2] (by decide) rfl) hS (Nat.le_of_ble_eq_true rfl) (Nat.le_of_ble_eq_true rfl) dX9_marks_86
        · refine lv_aload_n hx hb dX9_marks_56 rfl (lv_at hl 0 rfl) ?_
          refine z_get C hP 0 rfl rfl in_X9 27 (by decide) q1911 rfl dX9_marks_57 ?_
          refine lv_iload_n hx hb dX9_marks_60 rfl (lv_at hl 1 rfl) ?_
          refine lv_iload_n hx hb dX9_marks_61 rfl (lv_at hl 2 rfl) ?_
          refine z_iaddN C (at__1) (i) rfl rfl dX9_marks_62 ?_
          refine lv_aload_n hx hb dX9_marks_63 rfl (lv_at hl 0 rfl) ?_
          refine z_get C hP 0 rfl rfl in_X9 21 (by decide) q1905 rfl dX9_marks_64 ?_
          refine lv_iload_n hx hb dX9_marks_67 rfl (lv_at hl 2 rfl) ?_
          refine z_iald C hP 1 rfl (i) rfl (by omega) (by decide) dX9_marks_68 ?_
          refine z_iast C hP hD hS 2 rfl ((at__1 + i)) rfl (by omega) (by decide) (v := (nw i)) (ws' := [(a, .inr (9, [v0, v1, v2, v3, v4, v5, v6, v7, v8, v9, v10, v11, v12, v13, v14, v15, v16, .int (zI ((w : Nat) : Int)), .int (zI ((le : Nat) : Int)), .int (zB (ra)), .int (zB (rl)), .ref (qn), v22, v23, v24, v25, v26, .ref (qr), .int (zI ((es : Nat) : Int)), .int (zI ((un : Nat) : Int)), .ref (qh), .ref (qi), .int (zB (kn)), v33, v34, v35, v36, v37, v38, v39, v40, v41, v42, v43, v44])), (qn, .inl (dA 3, 66, .inl (fun j => zI (nw j)))), (qr, .inl (dA 3, 2640, .inl (fun j => zI ((va_up (cpN er (fun i => at__1 + i) nw (fun i => i) i) (at__1 + i) (nw i)) j))))]) rfl dX9_marks_69 (fun H locs hP hD hS => ?_)
          refine lv_iinc (v := zI ((i + 1 : Nat) : Int)) (lv' := [(2, .int (zI ((i + 1 : Nat) : Int))), (0, .ref (a)), (1, .int (zI ((at__1 : Nat) : Int)))]) hx hb dX9_marks_70 hl (k := 2) rfl (zI_inc (by omega)) (by decide) rfl (fun ls hl => ?_)
          refine lv_goto (tgt := 50) hx hb dX9_marks_73 (by decide) ?_
          exact ih50 (i + 1) (by first | with_reducible assumption | omega | with_reducible rfl) (by omega) H locs hP hD hS ls (lv_sub hl [1, 2, 0] rfl)
    exact L50 ((66 - 0) + 1) (0) (by first | with_reducible assumption | omega | with_reducible rfl) (by omega) H locs hP hD hS ls (lv_sub hl [2, 1, 0] rfl)
  · exact absurd c_6 (by omega)
set_option maxHeartbeats 600000 in
set_option maxRecDepth 100000 in
theorem k_X9_marks_full (l : Launch) (D : va_G) (dA : Nat → ClassId) (a : Nat) (v0 v1 v2 v3 v4 v5 v6 v7 v8 v9 v10 v11 v12 v13 v14 v15 v16 v22 v23 v24 v25 v26 v33 v34 v35 v36 v37 v38 v39 v40 v41 v42 v43 v44 : Value) (w le es qn qr qh qi : Nat) (ra rl kn : Bool) (nw er : Nat → Int) (hes : es < 40) : zG (S := Unit) l yX9_marks cX9_marks 3 (none) (zRmW 0 0 0 0) D dA [.ref (a)] [(a, .inr (9, [v0, v1, v2, v3, v4, v5, v6, v7, v8, v9, v10, v11, v12, v13, v14, v15, v16, .int (zI ((w : Nat) : Int)), .int (zI ((le : Nat) : Int)), .int (zB (ra)), .int (zB (rl)), .ref (qn), v22, v23, v24, v25, v26, .ref (qr), .int (zI ((es : Nat) : Int)), .int (zI ((40 : Nat) : Int)), .ref (qh), .ref (qi), .int (zB (kn)), v33, v34, v35, v36, v37, v38, v39, v40, v41, v42, v43, v44])), (qn, .inl (dA 3, 66, .inl (fun j => zI (nw j)))), (qr, .inl (dA 3, 2640, .inl (fun j => zI (er j))))] (fun _ : Unit => none) (fun _ : Unit => True) (fun _ : Unit => [(a, .inr (9, [v0, v1, v2, v3, v4, v5, v6, v7, v8, v9, v10, v11, v12, v13, v14, v15, v16, .int (zI ((w : Nat) : Int)), .int (zI ((le : Nat) : Int)), .int (zB (ra)), .int (zB (rl)), .ref (qn), v22, v23, v24, v25, v26, .ref (qr), .int (zI (((es + 1) % 40 : Nat) : Int)), .int (zI ((40 : Nat) : Int)), .ref (qh), .ref (qi), .int (zB (kn)), v33, v34, v35, v36, v37, v38, v39, v40, v41, v42, v43, v44])), (qn, .inl (dA 3, 66, .inl (fun j => zI (nw j)))), (qr, .inl (dA 3, 2640, .inl (fun j => zI ((cpN er (fun i => 66 * (((es + 1) % 40 + 39) % 40) + i) nw (fun i => i) 66) j))))]) := by
  refine zG.of (by decide +kernel) rfl ?_
  intro pp ee ss mm args below meth cd Q A C hr hlk hQ hA hin H locs hP hD hS ls hl
  have hx := C.1.1
  have hb := C.1.2.1
  have hl : lv_has ls 3 [(0, .ref (a))] := hl
  refine lv_aload_n hx hb dX9_marks_0 rfl (lv_at hl 0 rfl) ?_
  refine z_get C hP 0 rfl rfl in_X9 29 (by decide) q1913 rfl dX9_marks_1 ?_
  refine z_bipush C dX9_marks_4 rfl ?_
  refine z_icmp_ne (tgt := 32) C ⟨by omega, by omega⟩ ⟨by decide, by decide⟩ dX9_marks_6 (by decide) (fun c_6 => ?_) (fun c_6 => ?_)
  · exact absurd c_6 (by omega)
  · refine lv_aload_n hx hb dX9_marks_9 rfl (lv_at hl 0 rfl) ?_
    refine lv_aload_n hx hb dX9_marks_10 rfl (lv_at hl 0 rfl) ?_
    refine z_get C hP 0 rfl rfl in_X9 28 (by decide) q1912 rfl dX9_marks_11 ?_
    refine z_iconst C dX9_marks_14 ?_
    refine z_iaddN C (es) (1) rfl rfl dX9_marks_15 ?_
    refine z_bipush C dX9_marks_16 rfl ?_
    refine z_iremN C ((es + 1)) (40) rfl rfl (by omega) ⟨by omega, by omega⟩ dX9_marks_18 ?_
    refine z_put C hP hD hS 0 rfl rfl in_X9 tyX9_ok nmX9 28 (by decide) q1912 rfl (v := .int (zI ((((es + 1) % 40) : Nat) : Int))) rfl rfl (Nat.le_of_ble_eq_true rfl) (ws' := [(a, .inr (9, [v0, v1, v2, v3, v4, v5, v6, v7, v8, v9, v10, v11, v12, v13, v14, v15, v16, .int (zI ((w : Nat) : Int)), .int (zI ((le : Nat) : Int)), .int (zB (ra)), .int (zB (rl)), .ref (qn), v22, v23, v24, v25, v26, .ref (qr), .int (zI ((((es + 1) % 40) : Nat) : Int)), .int (zI ((40 : Nat) : Int)), .ref (qh), .ref (qi), .int (zB (kn)), v33, v34, v35, v36, v37, v38, v39, v40, v41, v42, v43, v44])), (qn, .inl (dA 3, 66, .inl (fun j => zI (nw j)))), (qr, .inl (dA 3, 2640, .inl (fun j => zI (er j))))]) rfl dX9_marks_19 (fun H locs hP hD hS => ?_)
    refine lv_aload_n hx hb dX9_marks_22 rfl (lv_at hl 0 rfl) ?_
    refine lv_dup hx hb dX9_marks_23 rfl ?_
    refine z_get C hP 0 rfl rfl in_X9 29 (by decide) q1913 rfl dX9_marks_24 ?_
    refine z_iconst C dX9_marks_27 ?_
    refine z_isubN C (40) (1) rfl rfl (by omega) dX9_marks_28 ?_
    refine z_put C hP hD hS 0 rfl rfl in_X9 tyX9_ok nmX9 29 (by decide) q1913 rfl (v := .int (zI (((40 - 1) : Nat) : Int))) rfl rfl (Nat.le_of_ble_eq_true rfl) (ws' := [(a, .inr (9, [v0, v1, v2, v3, v4, v5, v6, v7, v8, v9, v10, v11, v12, v13, v14, v15, v16, .int (zI ((w : Nat) : Int)), .int (zI ((le : Nat) : Int)), .int (zB (ra)), .int (zB (rl)), .ref (qn), v22, v23, v24, v25, v26, .ref (qr), .int (zI ((((es + 1) % 40) : Nat) : Int)), .int (zI (((40 - 1) : Nat) : Int)), .ref (qh), .ref (qi), .int (zB (kn)), v33, v34, v35, v36, v37, v38, v39, v40, v41, v42, v43, v44])), (qn, .inl (dA 3, 66, .inl (fun j => zI (nw j)))), (qr, .inl (dA 3, 2640, .inl (fun j => zI (er j))))]) rfl dX9_marks_29 (fun H locs hP hD hS => ?_)
    refine z_bipush C dX9_marks_32 rfl ?_
    refine lv_aload_n hx hb dX9_marks_34 rfl (lv_at hl 0 rfl) ?_
    refine z_get C hP 0 rfl rfl in_X9 28 (by decide) q1912 rfl dX9_marks_35 ?_
    refine lv_aload_n hx hb dX9_marks_38 rfl (lv_at hl 0 rfl) ?_
    refine z_get C hP 0 rfl rfl in_X9 29 (by decide) q1913 rfl dX9_marks_39 ?_
    refine z_iaddN C (((es + 1) % 40)) ((40 - 1)) rfl rfl dX9_marks_42 ?_
    refine z_bipush C dX9_marks_43 rfl ?_
    refine z_iremN C ((((es + 1) % 40) + (40 - 1))) (40) rfl rfl (by omega) ⟨by omega, by omega⟩ dX9_marks_45 ?_
    refine z_imulN C (66) (((((es + 1) % 40) + (40 - 1)) % 40)) rfl rfl dX9_marks_46 ?_
    refine z_nmN (fun at__1 e_at__1 => ?_)
    have hat : at__1 ≤ 2574 := by omega
    refine lv_istore_n (lv' := [(1, .int (zI ((at__1 : Nat) : Int))), (0, .ref (a))]) hx hb dX9_marks_47 rfl hl (by decide) rfl (fun ls hl => ?_)
    refine z_iconst C dX9_marks_48 ?_
    refine lv_istore_n (lv' := [(2, .int (zI 0)), (1, .int (zI ((at__1 : Nat) : Int))), (0, .ref (a))]) hx hb dX9_marks_49 rfl hl (by decide) rfl (fun ls hl => ?_)
    have L50 : ∀ (N : Nat) (i : Nat), (i ≤ 66) → (66 - i) < N → ∀ (H : Heap) (locs : List Loc), va_P D vwCl [(a, .inr (9, [v0, v1, v2, v3, v4, v5, v6, v7, v8, v9, v10, v11, v12, v13, v14, v15, v16, .int (zI ((w : Nat) : Int)), .int (zI ((le : Nat) : Int)), .int (zB (ra)), .int (zB (rl)), .ref (qn), v22, v23, v24, v25, v26, .ref (qr), .int (zI ((((es + 1) % 40) : Nat) : Int)), .int (zI (((40 - 1) : Nat) : Int)), .ref (qh), .ref (qi), .int (zB (kn)), v33, v34, v35, v36, v37, v38, v39, v40, v41, v42, v43, v44])), (qn, .inl (dA 3, 66, .inl (fun j => zI (nw j)))), (qr, .inl (dA 3, 2640, .inl (fun j => zI ((cpN er (fun i => at__1 + i) nw (fun i => i) i) j))))] H → va_D A [(a, .inr (9, [v0, v1, v2, v3, v4, v5, v6, v7, v8, v9, v10, v11, v12, v13, v14, v15, v16, .int (zI ((w : Nat) : Int)), .int (zI ((le : Nat) : Int)), .int (zB (ra)), .int (zB (rl)), .ref (qn), v22, v23, v24, v25, v26, .ref (qr), .int (zI ((((es + 1) % 40) : Nat) : Int)), .int (zI (((40 - 1) : Nat) : Int)), .ref (qh), .ref (qi), .int (zB (kn)), v33, v34, v35, v36, v37, v38, v39, v40, v41, v42, v43, v44])), (qn, .inl (dA 3, 66, .inl (fun j => zI (nw j)))), (qr, .inl (dA 3, 2640, .inl (fun j => zI ((cpN er (fun i => at__1 + i) nw (fun i => i) i) j))))] → va_S A ss.heap H locs → ∀ ls : Array Slot, lv_has ls 3 [(0, .ref (a)), (1, .int (zI ((at__1 : Nat) : Int))), (2, .int (zI ((i : Nat) : Int)))] → W pp l ee (zRmW 0 0 0 0) ss mm args below meth cd H locs 0 0 Q (F0 mm 50 ls []) := by
      intro N
      induction N with
      | zero => intro i _ hm; exact absurd hm (Nat.not_lt_zero _)
      | succ N ih50 =>
        intro i hi hmz50 H locs hP hD hS ls hl
        refine lv_iload_n hx hb dX9_marks_50 rfl (lv_at hl 2 rfl) ?_
        refine z_bipush C dX9_marks_51 rfl ?_
        refine z_icmp_ge (tgt := 76) C ⟨by omega, by omega⟩ ⟨by decide, by decide⟩ dX9_marks_53 (by decide) (fun c_53 => ?_) (fun c_53 => ?_)
        · refine lv_aload_n hx hb dX9_marks_76 rfl (lv_at hl 0 rfl) ?_
          refine lv_dup hx hb dX9_marks_77 rfl ?_
          refine z_get C hP 0 rfl rfl in_X9 29 (by decide) q1913 rfl dX9_marks_78 ?_
          refine z_iconst C dX9_marks_81 ?_
          refine z_iaddN C ((40 - 1)) (1) rfl rfl dX9_marks_82 ?_
          refine z_put C hP hD hS 0 rfl rfl in_X9 tyX9_ok nmX9 29 (by decide) q1913 rfl (v := .int (zI ((((40 - 1) + 1) : Nat) : Int))) rfl rfl (Nat.le_of_ble_eq_true rfl) (ws' := [(a, .inr (9, [v0, v1, v2, v3, v4, v5, v6, v7, v8, v9, v10, v11, v12, v13, v14, v15, v16, .int (zI ((w : Nat) : Int)), .int (zI ((le : Nat) : Int)), .int (zB (ra)), .int (zB (rl)), .ref (qn), v22, v23, v24, v25, v26, .ref (qr), .int (zI ((((es + 1) % 40) : Nat) : Int)), .int (zI ((((40 - 1) + 1) : Nat) : Int)), .ref (qh), .ref (qi), .int (zB (kn)), v33, v34, v35, v36, v37, v38, v39, v40, v41, v42, v43, v44])), (qn, .inl (dA 3, 66, .inl (fun j => zI (nw j)))), (qr, .inl (dA 3, 2640, .inl (fun j => zI ((cpN er (fun i => at__1 + i) nw (fun i => i) i) j))))]) rfl dX9_marks_83 (fun H locs hP hD hS => ?_)
          obtain rfl : i = 66 := by omega
          rw [e_at__1] at hP hD
          exact z_vretG C hlk hr hQ () rfl trivial (hP.sub [0, 1, 2] rfl) (hD.sub [0, 1, 2] (by decide) rfl) hS (Nat.le_of_ble_eq_true rfl) (Nat.le_of_ble_eq_true rfl) dX9_marks_86
        · refine lv_aload_n hx hb dX9_marks_56 rfl (lv_at hl 0 rfl) ?_
          refine z_get C hP 0 rfl rfl in_X9 27 (by decide) q1911 rfl dX9_marks_57 ?_
          refine lv_iload_n hx hb dX9_marks_60 rfl (lv_at hl 1 rfl) ?_
          refine lv_iload_n hx hb dX9_marks_61 rfl (lv_at hl 2 rfl) ?_
          refine z_iaddN C (at__1) (i) rfl rfl dX9_marks_62 ?_
          refine lv_aload_n hx hb dX9_marks_63 rfl (lv_at hl 0 rfl) ?_
          refine z_get C hP 0 rfl rfl in_X9 21 (by decide) q1905 rfl dX9_marks_64 ?_
          refine lv_iload_n hx hb dX9_marks_67 rfl (lv_at hl 2 rfl) ?_
          refine z_iald C hP 1 rfl (i) rfl (by omega) (by decide) dX9_marks_68 ?_
          refine z_iast C hP hD hS 2 rfl ((at__1 + i)) rfl (by omega) (by decide) (v := (nw i)) (ws' := [(a, .inr (9, [v0, v1, v2, v3, v4, v5, v6, v7, v8, v9, v10, v11, v12, v13, v14, v15, v16, .int (zI ((w : Nat) : Int)), .int (zI ((le : Nat) : Int)), .int (zB (ra)), .int (zB (rl)), .ref (qn), v22, v23, v24, v25, v26, .ref (qr), .int (zI ((((es + 1) % 40) : Nat) : Int)), .int (zI (((40 - 1) : Nat) : Int)), .ref (qh), .ref (qi), .int (zB (kn)), v33, v34, v35, v36, v37, v38, v39, v40, v41, v42, v43, v44])), (qn, .inl (dA 3, 66, .inl (fun j => zI (nw j)))), (qr, .inl (dA 3, 2640, .inl (fun j => zI ((va_up (cpN er (fun i => at__1 + i) nw (fun i => i) i) (at__1 + i) (nw i)) j))))]) rfl dX9_marks_69 (fun H locs hP hD hS => ?_)
          refine lv_iinc (v := zI ((i + 1 : Nat) : Int)) (lv' := [(2, .int (zI ((i + 1 : Nat) : Int))), (0, .ref (a)), (1, .int (zI ((at__1 : Nat) : Int)))]) hx hb dX9_marks_70 hl (k := 2) rfl (zI_inc (by omega)) (by decide) rfl (fun ls hl => ?_)
          refine lv_goto (tgt := 50) hx hb dX9_marks_73 (by decide) ?_
          exact ih50 (i + 1) (by first | with_reducible assumption | omega | with_reducible rfl) (by omega) H locs hP hD hS ls (lv_sub hl [1, 2, 0] rfl)
    exact L50 ((66 - 0) + 1) (0) (by first | with_reducible assumption | omega | with_reducible rfl) (by omega) H locs hP hD hS ls (lv_sub hl [2, 1, 0] rfl)
set_option maxHeartbeats 600000 in
set_option maxRecDepth 100000 in
theorem k_X9_undo (l : Launch) (D : va_G) (dA : Nat → ClassId) (a : Nat) (v0 v1 v2 v3 v4 v5 v6 v7 v8 v9 v10 v11 v12 v13 v14 v15 v16 v22 v23 v24 v25 v26 v33 v34 v35 v36 v37 v38 v39 v40 v41 v42 v43 v44 : Value) (w le es un qn qr qh qi : Nat) (ra rl kn : Bool) (nw er : Nat → Int) (hes : es < 40) (hun : 0 < un ∧ un ≤ 40) : zG (S := Unit) l yX9_undo cX9_undo 3 (some .boolean) (zRmW 0 0 0 0) D dA [.ref (a)] [(a, .inr (9, [v0, v1, v2, v3, v4, v5, v6, v7, v8, v9, v10, v11, v12, v13, v14, v15, v16, .int (zI ((w : Nat) : Int)), .int (zI ((le : Nat) : Int)), .int (zB (ra)), .int (zB (rl)), .ref (qn), v22, v23, v24, v25, v26, .ref (qr), .int (zI ((es : Nat) : Int)), .int (zI ((un : Nat) : Int)), .ref (qh), .ref (qi), .int (zB (kn)), v33, v34, v35, v36, v37, v38, v39, v40, v41, v42, v43, v44])), (qn, .inl (dA 3, 66, .inl (fun j => zI (nw j)))), (qr, .inl (dA 3, 2640, .inl (fun j => zI (er j))))] (fun _ : Unit => some (.int (zB (true)))) (fun _ : Unit => True) (fun _ : Unit => [(a, .inr (9, [v0, v1, v2, v3, v4, v5, v6, v7, v8, v9, v10, v11, v12, v13, v14, v15, v16, .int (zI ((w : Nat) : Int)), .int (zI ((le : Nat) : Int)), .int (zB (ra)), .int (zB (rl)), .ref (qn), v22, v23, v24, v25, v26, .ref (qr), .int (zI ((es : Nat) : Int)), .int (zI ((un - 1 : Nat) : Int)), .ref (qh), .ref (qi), .int (zB (false)), v33, v34, v35, v36, v37, v38, v39, v40, v41, v42, v43, v44])), (qn, .inl (dA 3, 66, .inl (fun j => zI ((cpN nw (fun i => i) er (fun i => 66 * ((es + (un - 1)) % 40) + i) 66) j)))), (qr, .inl (dA 3, 2640, .inl (fun j => zI (er j))))]) := by
  refine zG.of (by decide +kernel) rfl ?_
  intro pp ee ss mm args below meth cd Q A C hr hlk hQ hA hin H locs hP hD hS ls hl
  have hx := C.1.1
  have hb := C.1.2.1
  have hl : lv_has ls 3 [(0, .ref (a))] := hl
  refine lv_aload_n hx hb dX9_undo_0 rfl (lv_at hl 0 rfl) ?_
  refine z_get C hP 0 rfl rfl in_X9 29 (by decide) q1913 rfl dX9_undo_1 ?_
  refine z_if_ne (tgt := 9) C ⟨by omega, by omega⟩ dX9_undo_4 (by decide) (fun c_4 => ?_) (fun c_4 => ?_)
  · refine lv_aload_n hx hb dX9_undo_9 rfl (lv_at hl 0 rfl) ?_
    refine lv_dup hx hb dX9_undo_10 rfl ?_
    refine z_get C hP 0 rfl rfl in_X9 29 (by decide) q1913 rfl dX9_undo_11 ?_
    refine z_iconst C dX9_undo_14 ?_
    refine z_isubN C (un) (1) rfl rfl (by omega) dX9_undo_15 ?_
    refine z_put C hP hD hS 0 rfl rfl in_X9 tyX9_ok nmX9 29 (by decide) q1913 rfl (v := .int (zI (((un - 1) : Nat) : Int))) rfl rfl (Nat.le_of_ble_eq_true rfl) (ws' := [(a, .inr (9, [v0, v1, v2, v3, v4, v5, v6, v7, v8, v9, v10, v11, v12, v13, v14, v15, v16, .int (zI ((w : Nat) : Int)), .int (zI ((le : Nat) : Int)), .int (zB (ra)), .int (zB (rl)), .ref (qn), v22, v23, v24, v25, v26, .ref (qr), .int (zI ((es : Nat) : Int)), .int (zI (((un - 1) : Nat) : Int)), .ref (qh), .ref (qi), .int (zB (kn)), v33, v34, v35, v36, v37, v38, v39, v40, v41, v42, v43, v44])), (qn, .inl (dA 3, 66, .inl (fun j => zI (nw j)))), (qr, .inl (dA 3, 2640, .inl (fun j => zI (er j))))]) rfl dX9_undo_16 (fun H locs hP hD hS => ?_)
    refine z_bipush C dX9_undo_19 rfl ?_
    refine lv_aload_n hx hb dX9_undo_21 rfl (lv_at hl 0 rfl) ?_
    refine z_get C hP 0 rfl rfl in_X9 28 (by decide) q1912 rfl dX9_undo_22 ?_
    refine lv_aload_n hx hb dX9_undo_25 rfl (lv_at hl 0 rfl) ?_
    refine z_get C hP 0 rfl rfl in_X9 29 (by decide) q1913 rfl dX9_undo_26 ?_
    refine z_iaddN C (es) ((un - 1)) rfl rfl dX9_undo_29 ?_
    refine z_bipush C dX9_undo_30 rfl ?_
    refine z_iremN C ((es + (un - 1))) (40) rfl rfl (by omega) ⟨by omega, by omega⟩ dX9_undo_32 ?_
    refine z_imulN C (66) (((es + (un - 1)) % 40)) rfl rfl dX9_undo_33 ?_
    refine z_nmN (fun at__1 e_at__1 => ?_)
    have hat : at__1 ≤ 2574 := by omega
    refine lv_istore_n (lv' := [(1, .int (zI ((at__1 : Nat) : Int))), (0, .ref (a))]) hx hb dX9_undo_34 rfl hl (by decide) rfl (fun ls hl => ?_)
    refine z_iconst C dX9_undo_35 ?_
    refine lv_istore_n (lv' := [(2, .int (zI 0)), (1, .int (zI ((at__1 : Nat) : Int))), (0, .ref (a))]) hx hb dX9_undo_36 rfl hl (by decide) rfl (fun ls hl => ?_)
    have L37 : ∀ (N : Nat) (i : Nat), (i ≤ 66) → (66 - i) < N → ∀ (H : Heap) (locs : List Loc), va_P D vwCl [(a, .inr (9, [v0, v1, v2, v3, v4, v5, v6, v7, v8, v9, v10, v11, v12, v13, v14, v15, v16, .int (zI ((w : Nat) : Int)), .int (zI ((le : Nat) : Int)), .int (zB (ra)), .int (zB (rl)), .ref (qn), v22, v23, v24, v25, v26, .ref (qr), .int (zI ((es : Nat) : Int)), .int (zI (((un - 1) : Nat) : Int)), .ref (qh), .ref (qi), .int (zB (kn)), v33, v34, v35, v36, v37, v38, v39, v40, v41, v42, v43, v44])), (qn, .inl (dA 3, 66, .inl (fun j => zI ((cpN nw (fun i => i) er (fun i => at__1 + i) i) j)))), (qr, .inl (dA 3, 2640, .inl (fun j => zI (er j))))] H → va_D A [(a, .inr (9, [v0, v1, v2, v3, v4, v5, v6, v7, v8, v9, v10, v11, v12, v13, v14, v15, v16, .int (zI ((w : Nat) : Int)), .int (zI ((le : Nat) : Int)), .int (zB (ra)), .int (zB (rl)), .ref (qn), v22, v23, v24, v25, v26, .ref (qr), .int (zI ((es : Nat) : Int)), .int (zI (((un - 1) : Nat) : Int)), .ref (qh), .ref (qi), .int (zB (kn)), v33, v34, v35, v36, v37, v38, v39, v40, v41, v42, v43, v44])), (qn, .inl (dA 3, 66, .inl (fun j => zI ((cpN nw (fun i => i) er (fun i => at__1 + i) i) j)))), (qr, .inl (dA 3, 2640, .inl (fun j => zI (er j))))] → va_S A ss.heap H locs → ∀ ls : Array Slot, lv_has ls 3 [(0, .ref (a)), (1, .int (zI ((at__1 : Nat) : Int))), (2, .int (zI ((i : Nat) : Int)))] → W pp l ee (zRmW 0 0 0 0) ss mm args below meth cd H locs 0 0 Q (F0 mm 37 ls []) := by
      intro N
      induction N with
      | zero => intro i _ hm; exact absurd hm (Nat.not_lt_zero _)
      | succ N ih37 =>
        intro i hi hmz37 H locs hP hD hS ls hl
        refine lv_iload_n hx hb dX9_undo_37 rfl (lv_at hl 2 rfl) ?_
        refine z_bipush C dX9_undo_38 rfl ?_
        refine z_icmp_ge (tgt := 63) C ⟨by omega, by omega⟩ ⟨by decide, by decide⟩ dX9_undo_40 (by decide) (fun c_40 => ?_) (fun c_40 => ?_)
        · refine lv_aload_n hx hb dX9_undo_63 rfl (lv_at hl 0 rfl) ?_
          refine z_iconst C dX9_undo_64 ?_
          refine z_put C hP hD hS 0 rfl rfl in_X9 tyX9_ok nmX9 32 (by decide) q1916 rfl (v := .int (zB (false))) (zB_nar _) rfl (Nat.le_of_ble_eq_true rfl) (ws' := [(a, .inr (9, [v0, v1, v2, v3, v4, v5, v6, v7, v8, v9, v10, v11, v12, v13, v14, v15, v16, .int (zI ((w : Nat) : Int)), .int (zI ((le : Nat) : Int)), .int (zB (ra)), .int (zB (rl)), .ref (qn), v22, v23, v24, v25, v26, .ref (qr), .int (zI ((es : Nat) : Int)), .int (zI (((un - 1) : Nat) : Int)), .ref (qh), .ref (qi), .int (zB (false)), v33, v34, v35, v36, v37, v38, v39, v40, v41, v42, v43, v44])), (qn, .inl (dA 3, 66, .inl (fun j => zI ((cpN nw (fun i => i) er (fun i => at__1 + i) i) j)))), (qr, .inl (dA 3, 2640, .inl (fun j => zI (er j))))]) rfl dX9_undo_65 (fun H locs hP hD hS => ?_)
          refine z_iconst C dX9_undo_68 ?_
          obtain rfl : i = 66 := by omega
          rw [e_at__1] at hP hD
          exact z_zretG (a := true) C hlk hr hQ () rfl trivial (hP.sub [0, 1, 2] rfl) (hD.sub [0, 1, 2] (by decide) rfl) hS (Nat.le_of_ble_eq_true rfl) (Nat.le_of_ble_eq_true rfl) dX9_undo_69
        · refine lv_aload_n hx hb dX9_undo_43 rfl (lv_at hl 0 rfl) ?_
          refine z_get C hP 0 rfl rfl in_X9 21 (by decide) q1905 rfl dX9_undo_44 ?_
          refine lv_iload_n hx hb dX9_undo_47 rfl (lv_at hl 2 rfl) ?_
          refine lv_aload_n hx hb dX9_undo_48 rfl (lv_at hl 0 rfl) ?_
          refine z_get C hP 0 rfl rfl in_X9 27 (by decide) q1911 rfl dX9_undo_49 ?_
          refine lv_iload_n hx hb dX9_undo_52 rfl (lv_at hl 1 rfl) ?_
          refine lv_iload_n hx hb dX9_undo_53 rfl (lv_at hl 2 rfl) ?_
          refine z_iaddN C (at__1) (i) rfl rfl dX9_undo_54 ?_
          refine z_iald C hP 2 rfl ((at__1 + i)) rfl (by omega) (by decide) dX9_undo_55 ?_
          refine z_iast C hP hD hS 1 rfl (i) rfl (by omega) (by decide) (v := (er (at__1 + i))) (ws' := [(a, .inr (9, [v0, v1, v2, v3, v4, v5, v6, v7, v8, v9, v10, v11, v12, v13, v14, v15, v16, .int (zI ((w : Nat) : Int)), .int (zI ((le : Nat) : Int)), .int (zB (ra)), .int (zB (rl)), .ref (qn), v22, v23, v24, v25, v26, .ref (qr), .int (zI ((es : Nat) : Int)), .int (zI (((un - 1) : Nat) : Int)), .ref (qh), .ref (qi), .int (zB (kn)), v33, v34, v35, v36, v37, v38, v39, v40, v41, v42, v43, v44])), (qn, .inl (dA 3, 66, .inl (fun j => zI ((va_up (cpN nw (fun i => i) er (fun i => at__1 + i) i) i (er (at__1 + i))) j)))), (qr, .inl (dA 3, 2640, .inl (fun j => zI (er j))))]) rfl dX9_undo_56 (fun H locs hP hD hS => ?_)
          refine lv_iinc (v := zI ((i + 1 : Nat) : Int)) (lv' := [(2, .int (zI ((i + 1 : Nat) : Int))), (0, .ref (a)), (1, .int (zI ((at__1 : Nat) : Int)))]) hx hb dX9_undo_57 hl (k := 2) rfl (zI_inc (by omega)) (by decide) rfl (fun ls hl => ?_)
          refine lv_goto (tgt := 37) hx hb dX9_undo_60 (by decide) ?_
          exact ih37 (i + 1) (by first | with_reducible assumption | omega | with_reducible rfl) (by omega) H locs hP hD hS ls (lv_sub hl [1, 2, 0] rfl)
    exact L37 ((66 - 0) + 1) (0) (by first | with_reducible assumption | omega | with_reducible rfl) (by omega) H locs hP hD hS ls (lv_sub hl [2, 1, 0] rfl)
  · exact absurd c_4 (by omega)
set_option maxHeartbeats 600000 in
set_option maxRecDepth 100000 in
theorem k_X9_undo_no (l : Launch) (D : va_G) (dA : Nat → ClassId) (a : Nat) (v0 v1 v2 v3 v4 v5 v6 v7 v8 v9 v10 v11 v12 v13 v14 v15 v16 v22 v23 v24 v25 v26 v33 v34 v35 v36 v37 v38 v39 v40 v41 v42 v43 v44 : Value) (w le es un qn qr qh qi : Nat) (ra rl kn : Bool) (hun : un = 0) : zM l yX9_undo cX9_undo 3 (some .boolean) (zRm 0 0) D dA [.ref (a)] [(a, .inr (9, [v0, v1, v2, v3, v4, v5, v6, v7, v8, v9, v10, v11, v12, v13, v14, v15, v16, .int (zI ((w : Nat) : Int)), .int (zI ((le : Nat) : Int)), .int (zB (ra)), .int (zB (rl)), .ref (qn), v22, v23, v24, v25, v26, .ref (qr), .int (zI ((es : Nat) : Int)), .int (zI ((un : Nat) : Int)), .ref (qh), .ref (qi), .int (zB (kn)), v33, v34, v35, v36, v37, v38, v39, v40, v41, v42, v43, v44]))] (some (.int (zB (false)))) := by
  refine zM.of (by decide +kernel) rfl ?_
  intro pp ee ss mm args below meth cd Q C hr hlk hQ hP ls hl
  have hx := C.1.1
  have hb := C.1.2.1
  have hl : lv_has ls 3 [(0, .ref (a))] := hl
  refine lv_aload_n hx hb dX9_undo_0 rfl (lv_at hl 0 rfl) ?_
  refine z_get C hP 0 rfl rfl in_X9 29 (by decide) q1913 rfl dX9_undo_1 ?_
  refine z_if_ne (tgt := 9) C ⟨by omega, by omega⟩ dX9_undo_4 (by decide) (fun c_4 => ?_) (fun c_4 => ?_)
  · exact absurd c_4 (by omega)
  · refine z_iconst C dX9_undo_7 ?_
    exact z_zret0 C hlk hr hQ (by first | rfl | omega) dX9_undo_8
set_option maxHeartbeats 600000 in
set_option maxRecDepth 100000 in
theorem k_X9_hold (l : Launch) (D : va_G) (dA : Nat → ClassId) (a : Nat) (v0 v1 v2 v3 v4 v5 v6 v7 v8 v9 v10 v11 v12 v13 v14 v15 v16 v22 v23 v24 v25 v26 v33 v34 v35 v36 v37 v38 v39 v40 v41 v42 v43 v44 : Value) (w le es un qn qr qh qi : Nat) (ra rl kn : Bool) (nw hd : Nat → Int) (ih : Nat → Bool) (k : Nat) (hk : k < 3) : zG (S := Unit) l yX9_hold cX9_hold 3 (some .boolean) (zRmW 1 22 0 0) D dA [.ref (a), .int (zI ((k : Nat) : Int))] [(a, .inr (9, [v0, v1, v2, v3, v4, v5, v6, v7, v8, v9, v10, v11, v12, v13, v14, v15, v16, .int (zI ((w : Nat) : Int)), .int (zI ((le : Nat) : Int)), .int (zB (ra)), .int (zB (rl)), .ref (qn), v22, v23, v24, v25, v26, .ref (qr), .int (zI ((es : Nat) : Int)), .int (zI ((un : Nat) : Int)), .ref (qh), .ref (qi), .int (zB (kn)), v33, v34, v35, v36, v37, v38, v39, v40, v41, v42, v43, v44])), (qn, .inl (dA 3, 66, .inl (fun j => zI (nw j)))), (qh, .inl (dA 3, 198, .inl (fun j => zI (hd j)))), (qi, .inl (dA 0, 3, .inl (fun j => zB (ih j))))] (fun _ : Unit => some (.int (zB (true)))) (fun _ : Unit => True) (fun _ : Unit => [(a, .inr (9, [v0, v1, v2, v3, v4, v5, v6, v7, v8, v9, v10, v11, v12, v13, v14, v15, v16, .int (zI ((w : Nat) : Int)), .int (zI ((le : Nat) : Int)), .int (zB (ra)), .int (zB (rl)), .ref (qn), v22, v23, v24, v25, v26, .ref (qr), .int (zI ((es : Nat) : Int)), .int (zI ((un : Nat) : Int)), .ref (qh), .ref (qi), .int (zB (kn)), v33, v34, v35, v36, v37, v38, v39, v40, v41, v42, v43, v44])), (qn, .inl (dA 3, 66, .inl (fun j => zI (nw j)))), (qh, .inl (dA 3, 198, .inl (fun j => zI ((cpN hd (fun i => 66 * k + i) nw (fun i => i) 66) j)))), (qi, .inl (dA 0, 3, .inl (fun j => zB ((va_up ih k true) j))))]) := by
  refine zG.of (by decide +kernel) rfl ?_
  intro pp ee ss mm args below meth cd Q A C hr hlk hQ hA hin H locs hP hD hS ls hl
  have hx := C.1.1
  have hb := C.1.2.1
  have hl : lv_has ls 3 [(0, .ref (a)), (1, .int (zI ((k : Nat) : Int)))] := hl
  refine lv_iload_n hx hb dX9_hold_0 rfl (lv_at hl 1 rfl) ?_
  refine z_iconst C dX9_hold_1 ?_
  refine z_iconst C dX9_hold_2 ?_
  refine z_cS (n := 3) (As := [.int (zI ((k : Nat) : Int)), .int (zI 0), .int (zI 2)]) (rest := []) C (k_X9_in l D dA (((k : Nat) : Int)) (0) (2) (by first | with_reducible assumption | omega | with_reducible rfl) (by first | with_reducible assumption | omega | with_reducible rfl) (by first | with_reducible assumption | omega | with_reducible rfl)) (lw_S q2090 q2091 q124 q2092) (by decide +kernel) rfl ⟨Nat.le_of_ble_eq_true rfl, Nat.le_of_ble_eq_true rfl⟩ hl.1 (hP.sub [] rfl) rfl (Nat.le_of_ble_eq_true rfl) dX9_hold_3 (Nat.zero_le _) (Nat.zero_le _) ?_
  refine z_if_neB (tgt := 11) C dX9_hold_6 (by decide) (fun c_6 => ?_) (fun c_6 => ?_)
  · have c_6 := of_decide_eq_true c_6
    refine z_iconst C dX9_hold_11 ?_
    refine lv_istore_n (lv' := [(2, .int (zI 0)), (0, .ref (a)), (1, .int (zI ((k : Nat) : Int)))]) hx hb dX9_hold_12 rfl hl (by decide) rfl (fun ls hl => ?_)
    have L13 : ∀ (N : Nat) (i : Nat), (i ≤ 66) → (66 - i) < N → ∀ (H : Heap) (locs : List Loc), va_P D vwCl [(a, .inr (9, [v0, v1, v2, v3, v4, v5, v6, v7, v8, v9, v10, v11, v12, v13, v14, v15, v16, .int (zI ((w : Nat) : Int)), .int (zI ((le : Nat) : Int)), .int (zB (ra)), .int (zB (rl)), .ref (qn), v22, v23, v24, v25, v26, .ref (qr), .int (zI ((es : Nat) : Int)), .int (zI ((un : Nat) : Int)), .ref (qh), .ref (qi), .int (zB (kn)), v33, v34, v35, v36, v37, v38, v39, v40, v41, v42, v43, v44])), (qn, .inl (dA 3, 66, .inl (fun j => zI (nw j)))), (qh, .inl (dA 3, 198, .inl (fun j => zI ((cpN hd (fun i => 66 * k + i) nw (fun i => i) i) j)))), (qi, .inl (dA 0, 3, .inl (fun j => zB (ih j))))] H → va_D A [(a, .inr (9, [v0, v1, v2, v3, v4, v5, v6, v7, v8, v9, v10, v11, v12, v13, v14, v15, v16, .int (zI ((w : Nat) : Int)), .int (zI ((le : Nat) : Int)), .int (zB (ra)), .int (zB (rl)), .ref (qn), v22, v23, v24, v25, v26, .ref (qr), .int (zI ((es : Nat) : Int)), .int (zI ((un : Nat) : Int)), .ref (qh), .ref (qi), .int (zB (kn)), v33, v34, v35, v36, v37, v38, v39, v40, v41, v42, v43, v44])), (qn, .inl (dA 3, 66, .inl (fun j => zI (nw j)))), (qh, .inl (dA 3, 198, .inl (fun j => zI ((cpN hd (fun i => 66 * k + i) nw (fun i => i) i) j)))), (qi, .inl (dA 0, 3, .inl (fun j => zB (ih j))))] → va_S A ss.heap H locs → ∀ ls : Array Slot, lv_has ls 3 [(0, .ref (a)), (1, .int (zI ((k : Nat) : Int))), (2, .int (zI ((i : Nat) : Int)))] → W pp l ee (zRmW 1 22 0 0) ss mm args below meth cd H locs 0 0 Q (F0 mm 13 ls []) := by
      intro N
      induction N with
      | zero => intro i _ hm; exact absurd hm (Nat.not_lt_zero _)
      | succ N ih13 =>
        intro i hi hmz13 H locs hP hD hS ls hl
        refine lv_iload_n hx hb dX9_hold_13 rfl (lv_at hl 2 rfl) ?_
        refine z_bipush C dX9_hold_14 rfl ?_
        refine z_icmp_ge (tgt := 42) C ⟨by omega, by omega⟩ ⟨by decide, by decide⟩ dX9_hold_16 (by decide) (fun c_16 => ?_) (fun c_16 => ?_)
        · refine lv_aload_n hx hb dX9_hold_42 rfl (lv_at hl 0 rfl) ?_
          refine z_get C hP 0 rfl rfl in_X9 31 (by decide) q1915 rfl dX9_hold_43 ?_
          refine lv_iload_n hx hb dX9_hold_46 rfl (lv_at hl 1 rfl) ?_
          refine z_iconst C dX9_hold_47 ?_
          refine z_zast C hP hD hS 3 rfl (k) rfl (by omega) (by decide) (v := true) (ws' := [(a, .inr (9, [v0, v1, v2, v3, v4, v5, v6, v7, v8, v9, v10, v11, v12, v13, v14, v15, v16, .int (zI ((w : Nat) : Int)), .int (zI ((le : Nat) : Int)), .int (zB (ra)), .int (zB (rl)), .ref (qn), v22, v23, v24, v25, v26, .ref (qr), .int (zI ((es : Nat) : Int)), .int (zI ((un : Nat) : Int)), .ref (qh), .ref (qi), .int (zB (kn)), v33, v34, v35, v36, v37, v38, v39, v40, v41, v42, v43, v44])), (qn, .inl (dA 3, 66, .inl (fun j => zI (nw j)))), (qh, .inl (dA 3, 198, .inl (fun j => zI ((cpN hd (fun i => 66 * k + i) nw (fun i => i) i) j)))), (qi, .inl (dA 0, 3, .inl (fun j => zB ((va_up ih k true) j))))]) rfl dX9_hold_48 (fun H locs hP hD hS => ?_)
          refine z_iconst C dX9_hold_49 ?_
          obtain rfl : i = 66 := by omega
          exact z_zretG (a := true) C hlk hr hQ () rfl trivial (hP.sub [0, 1, 2, 3] rfl) (hD.sub [0, 1, 2, 3] (by decide) rfl) hS (Nat.le_of_ble_eq_true rfl) (Nat.le_of_ble_eq_true rfl) dX9_hold_50
        · refine lv_aload_n hx hb dX9_hold_19 rfl (lv_at hl 0 rfl) ?_
          refine z_get C hP 0 rfl rfl in_X9 30 (by decide) q1914 rfl dX9_hold_20 ?_
          refine z_bipush C dX9_hold_23 rfl ?_
          refine lv_iload_n hx hb dX9_hold_25 rfl (lv_at hl 1 rfl) ?_
          refine z_imulN C (66) (k) rfl rfl dX9_hold_26 ?_
          refine lv_iload_n hx hb dX9_hold_27 rfl (lv_at hl 2 rfl) ?_
          refine z_iaddN C ((66 * k)) (i) rfl rfl dX9_hold_28 ?_
          refine lv_aload_n hx hb dX9_hold_29 rfl (lv_at hl 0 rfl) ?_
          refine z_get C hP 0 rfl rfl in_X9 21 (by decide) q1905 rfl dX9_hold_30 ?_
          refine lv_iload_n hx hb dX9_hold_33 rfl (lv_at hl 2 rfl) ?_
          refine z_iald C hP 1 rfl (i) rfl (by omega) (by decide) dX9_hold_34 ?_
          refine z_iast C hP hD hS 2 rfl (((66 * k) + i)) rfl (by omega) (by decide) (v := (nw i)) (ws' := [(a, .inr (9, [v0, v1, v2, v3, v4, v5, v6, v7, v8, v9, v10, v11, v12, v13, v14, v15, v16, .int (zI ((w : Nat) : Int)), .int (zI ((le : Nat) : Int)), .int (zB (ra)), .int (zB (rl)), .ref (qn), v22, v23, v24, v25, v26, .ref (qr), .int (zI ((es : Nat) : Int)), .int (zI ((un : Nat) : Int)), .ref (qh), .ref (qi), .int (zB (kn)), v33, v34, v35, v36, v37, v38, v39, v40, v41, v42, v43, v44])), (qn, .inl (dA 3, 66, .inl (fun j => zI (nw j)))), (qh, .inl (dA 3, 198, .inl (fun j => zI ((va_up (cpN hd (fun i => 66 * k + i) nw (fun i => i) i) ((66 * k) + i) (nw i)) j)))), (qi, .inl (dA 0, 3, .inl (fun j => zB (ih j))))]) rfl dX9_hold_35 (fun H locs hP hD hS => ?_)
          refine lv_iinc (v := zI ((i + 1 : Nat) : Int)) (lv' := [(2, .int (zI ((i + 1 : Nat) : Int))), (0, .ref (a)), (1, .int (zI ((k : Nat) : Int)))]) hx hb dX9_hold_36 hl (k := 2) rfl (zI_inc (by omega)) (by decide) rfl (fun ls hl => ?_)
          refine lv_goto (tgt := 13) hx hb dX9_hold_39 (by decide) ?_
          exact ih13 (i + 1) (by first | with_reducible assumption | omega | with_reducible rfl) (by omega) H locs hP hD hS ls (lv_sub hl [1, 2, 0] rfl)
    exact L13 ((66 - 0) + 1) (0) (by first | with_reducible assumption | omega | with_reducible rfl) (by omega) H locs hP hD hS ls (lv_sub hl [1, 2, 0] rfl)
  · have c_6 := of_decide_eq_false c_6; exact absurd c_6 (by omega)
set_option maxHeartbeats 600000 in
set_option maxRecDepth 100000 in
theorem k_X9_hold_no (l : Launch) (D : va_G) (dA : Nat → ClassId) (a : Nat) (v0 v1 v2 v3 v4 v5 v6 v7 v8 v9 v10 v11 v12 v13 v14 v15 v16 v22 v23 v24 v25 v26 v33 v34 v35 v36 v37 v38 v39 v40 v41 v42 v43 v44 : Value) (w le es un qn qr qh qi : Nat) (ra rl kn : Bool) (k : Int) (hk : ¬ (0 ≤ k ∧ k ≤ 2)) (hz : zR k) : zM l yX9_hold cX9_hold 3 (some .boolean) (zRm 1 22) D dA [.ref (a), .int (zI (k))] [(a, .inr (9, [v0, v1, v2, v3, v4, v5, v6, v7, v8, v9, v10, v11, v12, v13, v14, v15, v16, .int (zI ((w : Nat) : Int)), .int (zI ((le : Nat) : Int)), .int (zB (ra)), .int (zB (rl)), .ref (qn), v22, v23, v24, v25, v26, .ref (qr), .int (zI ((es : Nat) : Int)), .int (zI ((un : Nat) : Int)), .ref (qh), .ref (qi), .int (zB (kn)), v33, v34, v35, v36, v37, v38, v39, v40, v41, v42, v43, v44]))] (some (.int (zB (false)))) := by
  refine zM.of (by decide +kernel) rfl ?_
  intro pp ee ss mm args below meth cd Q C hr hlk hQ hP ls hl
  have hx := C.1.1
  have hb := C.1.2.1
  have hl : lv_has ls 3 [(0, .ref (a)), (1, .int (zI (k)))] := hl
  refine lv_iload_n hx hb dX9_hold_0 rfl (lv_at hl 1 rfl) ?_
  refine z_iconst C dX9_hold_1 ?_
  refine z_iconst C dX9_hold_2 ?_
  refine z_cS (n := 3) (As := [.int (zI (k)), .int (zI 0), .int (zI 2)]) (rest := []) C (k_X9_in l D dA ((k)) (0) (2) (by first | with_reducible assumption | omega | with_reducible rfl) (by first | with_reducible assumption | omega | with_reducible rfl) (by first | with_reducible assumption | omega | with_reducible rfl)) (lw_S q2090 q2091 q124 q2092) (by decide +kernel) rfl ⟨Nat.le_of_ble_eq_true rfl, Nat.le_of_ble_eq_true rfl⟩ hl.1 (hP.sub [] rfl) rfl (Nat.le_of_ble_eq_true rfl) dX9_hold_3 (Nat.zero_le _) (Nat.zero_le _) ?_
  refine z_if_neB (tgt := 11) C dX9_hold_6 (by decide) (fun c_6 => ?_) (fun c_6 => ?_)
  · have c_6 := of_decide_eq_true c_6; exact absurd c_6 hk
  · have c_6 := of_decide_eq_false c_6
    refine z_iconst C dX9_hold_9 ?_
    exact z_zret0 C hlk hr hQ (by first | rfl | omega) dX9_hold_10
set_option maxHeartbeats 600000 in
set_option maxRecDepth 100000 in
theorem k_X9_restore (l : Launch) (D : va_G) (dA : Nat → ClassId) (a : Nat) (v0 v1 v2 v3 v4 v5 v6 v7 v8 v9 v10 v11 v12 v13 v14 v15 v16 v22 v23 v24 v25 v26 v33 v34 v35 v36 v37 v38 v39 v40 v41 v42 v43 v44 : Value) (w le es un qn qr qh qi : Nat) (ra rl kn : Bool) (nw hd : Nat → Int) (ih : Nat → Bool) (k : Nat) (hk : k < 3) (hih : ih k = true) : zG (S := Unit) l yX9_restore cX9_restore 3 (some .boolean) (zRmW 1 22 0 0) D dA [.ref (a), .int (zI ((k : Nat) : Int))] [(a, .inr (9, [v0, v1, v2, v3, v4, v5, v6, v7, v8, v9, v10, v11, v12, v13, v14, v15, v16, .int (zI ((w : Nat) : Int)), .int (zI ((le : Nat) : Int)), .int (zB (ra)), .int (zB (rl)), .ref (qn), v22, v23, v24, v25, v26, .ref (qr), .int (zI ((es : Nat) : Int)), .int (zI ((un : Nat) : Int)), .ref (qh), .ref (qi), .int (zB (kn)), v33, v34, v35, v36, v37, v38, v39, v40, v41, v42, v43, v44])), (qn, .inl (dA 3, 66, .inl (fun j => zI (nw j)))), (qh, .inl (dA 3, 198, .inl (fun j => zI (hd j)))), (qi, .inl (dA 0, 3, .inl (fun j => zB (ih j))))] (fun _ : Unit => some (.int (zB (true)))) (fun _ : Unit => True) (fun _ : Unit => [(a, .inr (9, [v0, v1, v2, v3, v4, v5, v6, v7, v8, v9, v10, v11, v12, v13, v14, v15, v16, .int (zI ((w : Nat) : Int)), .int (zI ((le : Nat) : Int)), .int (zB (ra)), .int (zB (rl)), .ref (qn), v22, v23, v24, v25, v26, .ref (qr), .int (zI ((es : Nat) : Int)), .int (zI ((0 : Nat) : Int)), .ref (qh), .ref (qi), .int (zB (false)), v33, v34, v35, v36, v37, v38, v39, v40, v41, v42, v43, v44])), (qn, .inl (dA 3, 66, .inl (fun j => zI ((cpN nw (fun i => i) hd (fun i => 66 * k + i) 66) j)))), (qh, .inl (dA 3, 198, .inl (fun j => zI (hd j)))), (qi, .inl (dA 0, 3, .inl (fun j => zB (ih j))))]) := by
  refine zG.of (by decide +kernel) rfl ?_
  intro pp ee ss mm args below meth cd Q A C hr hlk hQ hA hin H locs hP hD hS ls hl
  have hx := C.1.1
  have hb := C.1.2.1
  have hl : lv_has ls 3 [(0, .ref (a)), (1, .int (zI ((k : Nat) : Int)))] := hl
  refine lv_iload_n hx hb dX9_restore_0 rfl (lv_at hl 1 rfl) ?_
  refine z_iconst C dX9_restore_1 ?_
  refine z_iconst C dX9_restore_2 ?_
  refine z_cS (n := 3) (As := [.int (zI ((k : Nat) : Int)), .int (zI 0), .int (zI 2)]) (rest := []) C (k_X9_in l D dA (((k : Nat) : Int)) (0) (2) (by first | with_reducible assumption | omega | with_reducible rfl) (by first | with_reducible assumption | omega | with_reducible rfl) (by first | with_reducible assumption | omega | with_reducible rfl)) (lw_S q2090 q2091 q124 q2092) (by decide +kernel) rfl ⟨Nat.le_of_ble_eq_true rfl, Nat.le_of_ble_eq_true rfl⟩ hl.1 (hP.sub [] rfl) rfl (Nat.le_of_ble_eq_true rfl) dX9_restore_3 (Nat.zero_le _) (Nat.zero_le _) ?_
  refine z_if_eqB (tgt := 18) C dX9_restore_6 (by decide) (fun c_6 => ?_) (fun c_6 => ?_)
  · have c_6 := of_decide_eq_false c_6; exact absurd (show 0 ≤ (k : Int) ∧ (k : Int) ≤ 2 by omega) c_6
  · have c_6 := of_decide_eq_true c_6
    refine lv_aload_n hx hb dX9_restore_9 rfl (lv_at hl 0 rfl) ?_
    refine z_get C hP 0 rfl rfl in_X9 31 (by decide) q1915 rfl dX9_restore_10 ?_
    refine lv_iload_n hx hb dX9_restore_13 rfl (lv_at hl 1 rfl) ?_
    refine z_zald C hP 3 rfl (k) rfl (by omega) (by decide) dX9_restore_14 ?_
    refine z_if_neB (tgt := 20) C dX9_restore_15 (by decide) (fun c_15 => ?_) (fun c_15 => ?_)
    · refine z_iconst C dX9_restore_20 ?_
      refine lv_istore_n (lv' := [(2, .int (zI 0)), (0, .ref (a)), (1, .int (zI ((k : Nat) : Int)))]) hx hb dX9_restore_21 rfl hl (by decide) rfl (fun ls hl => ?_)
      have L22 : ∀ (N : Nat) (i : Nat), (i ≤ 66) → (66 - i) < N → ∀ (H : Heap) (locs : List Loc), va_P D vwCl [(a, .inr (9, [v0, v1, v2, v3, v4, v5, v6, v7, v8, v9, v10, v11, v12, v13, v14, v15, v16, .int (zI ((w : Nat) : Int)), .int (zI ((le : Nat) : Int)), .int (zB (ra)), .int (zB (rl)), .ref (qn), v22, v23, v24, v25, v26, .ref (qr), .int (zI ((es : Nat) : Int)), .int (zI ((un : Nat) : Int)), .ref (qh), .ref (qi), .int (zB (kn)), v33, v34, v35, v36, v37, v38, v39, v40, v41, v42, v43, v44])), (qn, .inl (dA 3, 66, .inl (fun j => zI ((cpN nw (fun i => i) hd (fun i => 66 * k + i) i) j)))), (qh, .inl (dA 3, 198, .inl (fun j => zI (hd j)))), (qi, .inl (dA 0, 3, .inl (fun j => zB (ih j))))] H → va_D A [(a, .inr (9, [v0, v1, v2, v3, v4, v5, v6, v7, v8, v9, v10, v11, v12, v13, v14, v15, v16, .int (zI ((w : Nat) : Int)), .int (zI ((le : Nat) : Int)), .int (zB (ra)), .int (zB (rl)), .ref (qn), v22, v23, v24, v25, v26, .ref (qr), .int (zI ((es : Nat) : Int)), .int (zI ((un : Nat) : Int)), .ref (qh), .ref (qi), .int (zB (kn)), v33, v34, v35, v36, v37, v38, v39, v40, v41, v42, v43, v44])), (qn, .inl (dA 3, 66, .inl (fun j => zI ((cpN nw (fun i => i) hd (fun i => 66 * k + i) i) j)))), (qh, .inl (dA 3, 198, .inl (fun j => zI (hd j)))), (qi, .inl (dA 0, 3, .inl (fun j => zB (ih j))))] → va_S A ss.heap H locs → ∀ ls : Array Slot, lv_has ls 3 [(0, .ref (a)), (1, .int (zI ((k : Nat) : Int))), (2, .int (zI ((i : Nat) : Int)))] → W pp l ee (zRmW 1 22 0 0) ss mm args below meth cd H locs 0 0 Q (F0 mm 22 ls []) := by
        intro N
        induction N with
        | zero => intro i _ hm; exact absurd hm (Nat.not_lt_zero _)
        | succ N ih22 =>
          intro i hi hmz22 H locs hP hD hS ls hl
          refine lv_iload_n hx hb dX9_restore_22 rfl (lv_at hl 2 rfl) ?_
          refine z_bipush C dX9_restore_23 rfl ?_
          refine z_icmp_ge (tgt := 51) C ⟨by omega, by omega⟩ ⟨by decide, by decide⟩ dX9_restore_25 (by decide) (fun c_25 => ?_) (fun c_25 => ?_)
          · refine lv_aload_n hx hb dX9_restore_51 rfl (lv_at hl 0 rfl) ?_
            refine z_iconst C dX9_restore_52 ?_
            refine z_put C hP hD hS 0 rfl rfl in_X9 tyX9_ok nmX9 29 (by decide) q1913 rfl (v := .int (zI 0)) rfl rfl (Nat.le_of_ble_eq_true rfl) (ws' := [(a, .inr (9, [v0, v1, v2, v3, v4, v5, v6, v7, v8, v9, v10, v11, v12, v13, v14, v15, v16, .int (zI ((w : Nat) : Int)), .int (zI ((le : Nat) : Int)), .int (zB (ra)), .int (zB (rl)), .ref (qn), v22, v23, v24, v25, v26, .ref (qr), .int (zI ((es : Nat) : Int)), .int (zI 0), .ref (qh), .ref (qi), .int (zB (kn)), v33, v34, v35, v36, v37, v38, v39, v40, v41, v42, v43, v44])), (qn, .inl (dA 3, 66, .inl (fun j => zI ((cpN nw (fun i => i) hd (fun i => 66 * k + i) i) j)))), (qh, .inl (dA 3, 198, .inl (fun j => zI (hd j)))), (qi, .inl (dA 0, 3, .inl (fun j => zB (ih j))))]) rfl dX9_restore_53 (fun H locs hP hD hS => ?_)
            refine lv_aload_n hx hb dX9_restore_56 rfl (lv_at hl 0 rfl) ?_
            refine z_iconst C dX9_restore_57 ?_
            refine z_put C hP hD hS 0 rfl rfl in_X9 tyX9_ok nmX9 32 (by decide) q1916 rfl (v := .int (zB (false))) (zB_nar _) rfl (Nat.le_of_ble_eq_true rfl) (ws' := [(a, .inr (9, [v0, v1, v2, v3, v4, v5, v6, v7, v8, v9, v10, v11, v12, v13, v14, v15, v16, .int (zI ((w : Nat) : Int)), .int (zI ((le : Nat) : Int)), .int (zB (ra)), .int (zB (rl)), .ref (qn), v22, v23, v24, v25, v26, .ref (qr), .int (zI ((es : Nat) : Int)), .int (zI 0), .ref (qh), .ref (qi), .int (zB (false)), v33, v34, v35, v36, v37, v38, v39, v40, v41, v42, v43, v44])), (qn, .inl (dA 3, 66, .inl (fun j => zI ((cpN nw (fun i => i) hd (fun i => 66 * k + i) i) j)))), (qh, .inl (dA 3, 198, .inl (fun j => zI (hd j)))), (qi, .inl (dA 0, 3, .inl (fun j => zB (ih j))))]) rfl dX9_restore_58 (fun H locs hP hD hS => ?_)
            refine z_iconst C dX9_restore_61 ?_
            obtain rfl : i = 66 := by omega
            exact z_zretG (a := true) C hlk hr hQ () rfl trivial (hP.sub [0, 1, 2, 3] rfl) (hD.sub [0, 1, 2, 3] (by decide) rfl) hS (Nat.le_of_ble_eq_true rfl) (Nat.le_of_ble_eq_true rfl) dX9_restore_62
          · refine lv_aload_n hx hb dX9_restore_28 rfl (lv_at hl 0 rfl) ?_
            refine z_get C hP 0 rfl rfl in_X9 21 (by decide) q1905 rfl dX9_restore_29 ?_
            refine lv_iload_n hx hb dX9_restore_32 rfl (lv_at hl 2 rfl) ?_
            refine lv_aload_n hx hb dX9_restore_33 rfl (lv_at hl 0 rfl) ?_
            refine z_get C hP 0 rfl rfl in_X9 30 (by decide) q1914 rfl dX9_restore_34 ?_
            refine z_bipush C dX9_restore_37 rfl ?_
            refine lv_iload_n hx hb dX9_restore_39 rfl (lv_at hl 1 rfl) ?_
            refine z_imulN C (66) (k) rfl rfl dX9_restore_40 ?_
            refine lv_iload_n hx hb dX9_restore_41 rfl (lv_at hl 2 rfl) ?_
            refine z_iaddN C ((66 * k)) (i) rfl rfl dX9_restore_42 ?_
            refine z_iald C hP 2 rfl (((66 * k) + i)) rfl (by omega) (by decide) dX9_restore_43 ?_
            refine z_iast C hP hD hS 1 rfl (i) rfl (by omega) (by decide) (v := (hd ((66 * k) + i))) (ws' := [(a, .inr (9, [v0, v1, v2, v3, v4, v5, v6, v7, v8, v9, v10, v11, v12, v13, v14, v15, v16, .int (zI ((w : Nat) : Int)), .int (zI ((le : Nat) : Int)), .int (zB (ra)), .int (zB (rl)), .ref (qn), v22, v23, v24, v25, v26, .ref (qr), .int (zI ((es : Nat) : Int)), .int (zI ((un : Nat) : Int)), .ref (qh), .ref (qi), .int (zB (kn)), v33, v34, v35, v36, v37, v38, v39, v40, v41, v42, v43, v44])), (qn, .inl (dA 3, 66, .inl (fun j => zI ((va_up (cpN nw (fun i => i) hd (fun i => 66 * k + i) i) i (hd ((66 * k) + i))) j)))), (qh, .inl (dA 3, 198, .inl (fun j => zI (hd j)))), (qi, .inl (dA 0, 3, .inl (fun j => zB (ih j))))]) rfl dX9_restore_44 (fun H locs hP hD hS => ?_)
            refine lv_iinc (v := zI ((i + 1 : Nat) : Int)) (lv' := [(2, .int (zI ((i + 1 : Nat) : Int))), (0, .ref (a)), (1, .int (zI ((k : Nat) : Int)))]) hx hb dX9_restore_45 hl (k := 2) rfl (zI_inc (by omega)) (by decide) rfl (fun ls hl => ?_)
            refine lv_goto (tgt := 22) hx hb dX9_restore_48 (by decide) ?_
            exact ih22 (i + 1) (by first | with_reducible assumption | omega | with_reducible rfl) (by omega) H locs hP hD hS ls (lv_sub hl [1, 2, 0] rfl)
      exact L22 ((66 - 0) + 1) (0) (by first | with_reducible assumption | omega | with_reducible rfl) (by omega) H locs hP hD hS ls (lv_sub hl [1, 2, 0] rfl)
    · exact absurd hih (by rw [c_15]; decide)
