set_option maxHeartbeats 600000 in
set_option maxRecDepth 100000 in
theorem k_J14_compare (l : Launch) (D : va_G) (dA : Nat → ClassId) (x y : Int) (h1 : zR x) (h2 : zR y) : zM l yJ14_compare cJ14_compare 2 (some .int) (zRm 0 0) D dA [.int (zI (x)), .int (zI (y))] [] (some (.int (zI (if x < y then -1 else if x = y then 0 else 1)))) := by
  refine zM.of (by decide +kernel) rfl ?_
  intro pp ee ss mm args below meth cd Q C hr hlk hQ hP ls hl
  have hx := C.1.1
  have hb := C.1.2.1
  have hl : lv_has ls 2 [(0, .int (zI (x))), (1, .int (zI (y)))] := hl
  refine lv_iload_n hx hb dJ14_compare_0 rfl (lv_at hl 0 rfl) ?_
  refine lv_iload_n hx hb dJ14_compare_1 rfl (lv_at hl 1 rfl) ?_
  refine z_icmp_ge (tgt := 9) C ⟨by omega, by omega⟩ ⟨by omega, by omega⟩ dJ14_compare_2 (by decide) (fun c_2 => ?_) (fun c_2 => ?_)
  · refine lv_iload_n hx hb dJ14_compare_9 rfl (lv_at hl 0 rfl) ?_
    refine lv_iload_n hx hb dJ14_compare_10 rfl (lv_at hl 1 rfl) ?_
    refine z_icmp_ne (tgt := 18) C ⟨by omega, by omega⟩ ⟨by omega, by omega⟩ dJ14_compare_11 (by decide) (fun c_11 => ?_) (fun c_11 => ?_)
    · refine z_iconst C dJ14_compare_18 ?_
      exact z_iret C hlk hr hQ (by first | (rw [if_pos (by omega)]; done) | (rw [if_neg (by omega), if_pos (by omega)]; done) | (rw [if_neg (by omega), if_neg (by omega)]; done)) dJ14_compare_19
    · refine z_iconst C dJ14_compare_14 ?_
      refine lv_goto (tgt := 19) hx hb dJ14_compare_15 (by decide) ?_
      exact z_iret C hlk hr hQ (by first | (rw [if_pos (by omega)]; done) | (rw [if_neg (by omega), if_pos (by omega)]; done) | (rw [if_neg (by omega), if_neg (by omega)]; done)) dJ14_compare_19
  · refine z_iconst C dJ14_compare_5 ?_
    refine lv_goto (tgt := 19) hx hb dJ14_compare_6 (by decide) ?_
    exact z_iret C hlk hr hQ (by first | (rw [if_pos (by omega)]; done) | (rw [if_neg (by omega), if_pos (by omega)]; done) | (rw [if_neg (by omega), if_neg (by omega)]; done)) dJ14_compare_19
set_option maxHeartbeats 600000 in
set_option maxRecDepth 100000 in
theorem k_X4_becomes (l : Launch) (D : va_G) (dA : Nat → ClassId) (a b : Nat) (x0 x1 x2 x3 x4 x8 x9 : Value) (w le rg st sd u d qa ql qf ra_ rl_ rf_ : Nat) (fa fl ff ga gl gf : Nat → Int) : zG (S := Unit) l yX4_becomes cX4_becomes 2 (none) (zRmW 1 26 0 0) D dA [.ref (a), .ref (b)] [(a, .inr (4, [x0, x1, x2, x3, x4, .ref (ra_), .ref (rl_), .ref (rf_), x8, x9])), (b, .inr (4, [.int (zI ((w : Nat) : Int)), .int (zI ((le : Nat) : Int)), .int (zI ((rg : Nat) : Int)), .int (zI ((st : Nat) : Int)), .int (zI ((sd : Nat) : Int)), .ref (qa), .ref (ql), .ref (qf), .int (zI ((u : Nat) : Int)), .int (zI ((d : Nat) : Int))])), (qa, .inl (dA 3, 16, .inl (fun jz => zI (fa jz)))), (ql, .inl (dA 3, 16, .inl (fun jz => zI (fl jz)))), (qf, .inl (dA 3, 16, .inl (fun jz => zI (ff jz)))), (ra_, .inl (dA 3, 16, .inl (fun jz => zI (ga jz)))), (rl_, .inl (dA 3, 16, .inl (fun jz => zI (gl jz)))), (rf_, .inl (dA 3, 16, .inl (fun jz => zI (gf jz))))] (fun _ : Unit => none) (fun _ : Unit => True) (fun _ : Unit => [(a, .inr (4, [.int (zI ((w : Nat) : Int)), .int (zI ((le : Nat) : Int)), .int (zI ((rg : Nat) : Int)), .int (zI ((st : Nat) : Int)), .int (zI ((sd : Nat) : Int)), .ref (ra_), .ref (rl_), .ref (rf_), .int (zI ((u : Nat) : Int)), .int (zI ((d : Nat) : Int))])), (b, .inr (4, [.int (zI ((w : Nat) : Int)), .int (zI ((le : Nat) : Int)), .int (zI ((rg : Nat) : Int)), .int (zI ((st : Nat) : Int)), .int (zI ((sd : Nat) : Int)), .ref (qa), .ref (ql), .ref (qf), .int (zI ((u : Nat) : Int)), .int (zI ((d : Nat) : Int))])), (qa, .inl (dA 3, 16, .inl (fun jz => zI (fa jz)))), (ql, .inl (dA 3, 16, .inl (fun jz => zI (fl jz)))), (qf, .inl (dA 3, 16, .inl (fun jz => zI (ff jz)))), (ra_, .inl (dA 3, 16, .inl (fun jz => zI ((cpy fa ga 16) jz)))), (rl_, .inl (dA 3, 16, .inl (fun jz => zI ((cpy fl gl 16) jz)))), (rf_, .inl (dA 3, 16, .inl (fun jz => zI ((cpy ff gf 16) jz))))]) := by
  refine zG.of (by decide +kernel) rfl ?_
  intro pp ee ss mm args below meth cd Q A C hr hlk hQ hA hin H locs hP hD hS ls hl
  have hx := C.1.1
  have hb := C.1.2.1
  have hl : lv_has ls 2 [(0, .ref (a)), (1, .ref (b))] := hl
  refine lv_aload_n hx hb dX4_becomes_0 rfl (lv_at hl 0 rfl) ?_
  refine lv_aload_n hx hb dX4_becomes_1 rfl (lv_at hl 1 rfl) ?_
  refine z_get C hP 1 rfl rfl in_X4 0 (by decide) q293 rfl dX4_becomes_2 ?_
  refine z_put C hP hD hS 0 rfl rfl in_X4 tyX4_ok nmX4 0 (by decide) q293 rfl (v := .int (zI ((w : Nat) : Int))) rfl rfl (Nat.le_of_ble_eq_true rfl) (ws' := [(a, .inr (4, [.int (zI ((w : Nat) : Int)), x1, x2, x3, x4, .ref (ra_), .ref (rl_), .ref (rf_), x8, x9])), (b, .inr (4, [.int (zI ((w : Nat) : Int)), .int (zI ((le : Nat) : Int)), .int (zI ((rg : Nat) : Int)), .int (zI ((st : Nat) : Int)), .int (zI ((sd : Nat) : Int)), .ref (qa), .ref (ql), .ref (qf), .int (zI ((u : Nat) : Int)), .int (zI ((d : Nat) : Int))])), (qa, .inl (dA 3, 16, .inl (fun jz => zI (fa jz)))), (ql, .inl (dA 3, 16, .inl (fun jz => zI (fl jz)))), (qf, .inl (dA 3, 16, .inl (fun jz => zI (ff jz)))), (ra_, .inl (dA 3, 16, .inl (fun jz => zI (ga jz)))), (rl_, .inl (dA 3, 16, .inl (fun jz => zI (gl jz)))), (rf_, .inl (dA 3, 16, .inl (fun jz => zI (gf jz))))]) rfl dX4_becomes_5 (fun H locs hP hD hS => ?_)
  refine lv_aload_n hx hb dX4_becomes_8 rfl (lv_at hl 0 rfl) ?_
  refine lv_aload_n hx hb dX4_becomes_9 rfl (lv_at hl 1 rfl) ?_
  refine z_get C hP 1 rfl rfl in_X4 1 (by decide) q297 rfl dX4_becomes_10 ?_
  refine z_put C hP hD hS 0 rfl rfl in_X4 tyX4_ok nmX4 1 (by decide) q297 rfl (v := .int (zI ((le : Nat) : Int))) rfl rfl (Nat.le_of_ble_eq_true rfl) (ws' := [(a, .inr (4, [.int (zI ((w : Nat) : Int)), .int (zI ((le : Nat) : Int)), x2, x3, x4, .ref (ra_), .ref (rl_), .ref (rf_), x8, x9])), (b, .inr (4, [.int (zI ((w : Nat) : Int)), .int (zI ((le : Nat) : Int)), .int (zI ((rg : Nat) : Int)), .int (zI ((st : Nat) : Int)), .int (zI ((sd : Nat) : Int)), .ref (qa), .ref (ql), .ref (qf), .int (zI ((u : Nat) : Int)), .int (zI ((d : Nat) : Int))])), (qa, .inl (dA 3, 16, .inl (fun jz => zI (fa jz)))), (ql, .inl (dA 3, 16, .inl (fun jz => zI (fl jz)))), (qf, .inl (dA 3, 16, .inl (fun jz => zI (ff jz)))), (ra_, .inl (dA 3, 16, .inl (fun jz => zI (ga jz)))), (rl_, .inl (dA 3, 16, .inl (fun jz => zI (gl jz)))), (rf_, .inl (dA 3, 16, .inl (fun jz => zI (gf jz))))]) rfl dX4_becomes_13 (fun H locs hP hD hS => ?_)
  refine lv_aload_n hx hb dX4_becomes_16 rfl (lv_at hl 0 rfl) ?_
  refine lv_aload_n hx hb dX4_becomes_17 rfl (lv_at hl 1 rfl) ?_
  refine z_get C hP 1 rfl rfl in_X4 2 (by decide) q301 rfl dX4_becomes_18 ?_
  refine z_put C hP hD hS 0 rfl rfl in_X4 tyX4_ok nmX4 2 (by decide) q301 rfl (v := .int (zI ((rg : Nat) : Int))) rfl rfl (Nat.le_of_ble_eq_true rfl) (ws' := [(a, .inr (4, [.int (zI ((w : Nat) : Int)), .int (zI ((le : Nat) : Int)), .int (zI ((rg : Nat) : Int)), x3, x4, .ref (ra_), .ref (rl_), .ref (rf_), x8, x9])), (b, .inr (4, [.int (zI ((w : Nat) : Int)), .int (zI ((le : Nat) : Int)), .int (zI ((rg : Nat) : Int)), .int (zI ((st : Nat) : Int)), .int (zI ((sd : Nat) : Int)), .ref (qa), .ref (ql), .ref (qf), .int (zI ((u : Nat) : Int)), .int (zI ((d : Nat) : Int))])), (qa, .inl (dA 3, 16, .inl (fun jz => zI (fa jz)))), (ql, .inl (dA 3, 16, .inl (fun jz => zI (fl jz)))), (qf, .inl (dA 3, 16, .inl (fun jz => zI (ff jz)))), (ra_, .inl (dA 3, 16, .inl (fun jz => zI (ga jz)))), (rl_, .inl (dA 3, 16, .inl (fun jz => zI (gl jz)))), (rf_, .inl (dA 3, 16, .inl (fun jz => zI (gf jz))))]) rfl dX4_becomes_21 (fun H locs hP hD hS => ?_)
  refine lv_aload_n hx hb dX4_becomes_24 rfl (lv_at hl 0 rfl) ?_
  refine lv_aload_n hx hb dX4_becomes_25 rfl (lv_at hl 1 rfl) ?_
  refine z_get C hP 1 rfl rfl in_X4 3 (by decide) q305 rfl dX4_becomes_26 ?_
  refine z_put C hP hD hS 0 rfl rfl in_X4 tyX4_ok nmX4 3 (by decide) q305 rfl (v := .int (zI ((st : Nat) : Int))) rfl rfl (Nat.le_of_ble_eq_true rfl) (ws' := [(a, .inr (4, [.int (zI ((w : Nat) : Int)), .int (zI ((le : Nat) : Int)), .int (zI ((rg : Nat) : Int)), .int (zI ((st : Nat) : Int)), x4, .ref (ra_), .ref (rl_), .ref (rf_), x8, x9])), (b, .inr (4, [.int (zI ((w : Nat) : Int)), .int (zI ((le : Nat) : Int)), .int (zI ((rg : Nat) : Int)), .int (zI ((st : Nat) : Int)), .int (zI ((sd : Nat) : Int)), .ref (qa), .ref (ql), .ref (qf), .int (zI ((u : Nat) : Int)), .int (zI ((d : Nat) : Int))])), (qa, .inl (dA 3, 16, .inl (fun jz => zI (fa jz)))), (ql, .inl (dA 3, 16, .inl (fun jz => zI (fl jz)))), (qf, .inl (dA 3, 16, .inl (fun jz => zI (ff jz)))), (ra_, .inl (dA 3, 16, .inl (fun jz => zI (ga jz)))), (rl_, .inl (dA 3, 16, .inl (fun jz => zI (gl jz)))), (rf_, .inl (dA 3, 16, .inl (fun jz => zI (gf jz))))]) rfl dX4_becomes_29 (fun H locs hP hD hS => ?_)
  refine lv_aload_n hx hb dX4_becomes_32 rfl (lv_at hl 0 rfl) ?_
  refine lv_aload_n hx hb dX4_becomes_33 rfl (lv_at hl 1 rfl) ?_
  refine z_get C hP 1 rfl rfl in_X4 4 (by decide) q308 rfl dX4_becomes_34 ?_
  refine z_put C hP hD hS 0 rfl rfl in_X4 tyX4_ok nmX4 4 (by decide) q308 rfl (v := .int (zI ((sd : Nat) : Int))) rfl rfl (Nat.le_of_ble_eq_true rfl) (ws' := [(a, .inr (4, [.int (zI ((w : Nat) : Int)), .int (zI ((le : Nat) : Int)), .int (zI ((rg : Nat) : Int)), .int (zI ((st : Nat) : Int)), .int (zI ((sd : Nat) : Int)), .ref (ra_), .ref (rl_), .ref (rf_), x8, x9])), (b, .inr (4, [.int (zI ((w : Nat) : Int)), .int (zI ((le : Nat) : Int)), .int (zI ((rg : Nat) : Int)), .int (zI ((st : Nat) : Int)), .int (zI ((sd : Nat) : Int)), .ref (qa), .ref (ql), .ref (qf), .int (zI ((u : Nat) : Int)), .int (zI ((d : Nat) : Int))])), (qa, .inl (dA 3, 16, .inl (fun jz => zI (fa jz)))), (ql, .inl (dA 3, 16, .inl (fun jz => zI (fl jz)))), (qf, .inl (dA 3, 16, .inl (fun jz => zI (ff jz)))), (ra_, .inl (dA 3, 16, .inl (fun jz => zI (ga jz)))), (rl_, .inl (dA 3, 16, .inl (fun jz => zI (gl jz)))), (rf_, .inl (dA 3, 16, .inl (fun jz => zI (gf jz))))]) rfl dX4_becomes_37 (fun H locs hP hD hS => ?_)
  refine lv_aload_n hx hb dX4_becomes_40 rfl (lv_at hl 0 rfl) ?_
  refine lv_aload_n hx hb dX4_becomes_41 rfl (lv_at hl 1 rfl) ?_
  refine z_get C hP 1 rfl rfl in_X4 8 (by decide) q322 rfl dX4_becomes_42 ?_
  refine z_put C hP hD hS 0 rfl rfl in_X4 tyX4_ok nmX4 8 (by decide) q322 rfl (v := .int (zI ((u : Nat) : Int))) rfl rfl (Nat.le_of_ble_eq_true rfl) (ws' := [(a, .inr (4, [.int (zI ((w : Nat) : Int)), .int (zI ((le : Nat) : Int)), .int (zI ((rg : Nat) : Int)), .int (zI ((st : Nat) : Int)), .int (zI ((sd : Nat) : Int)), .ref (ra_), .ref (rl_), .ref (rf_), .int (zI ((u : Nat) : Int)), x9])), (b, .inr (4, [.int (zI ((w : Nat) : Int)), .int (zI ((le : Nat) : Int)), .int (zI ((rg : Nat) : Int)), .int (zI ((st : Nat) : Int)), .int (zI ((sd : Nat) : Int)), .ref (qa), .ref (ql), .ref (qf), .int (zI ((u : Nat) : Int)), .int (zI ((d : Nat) : Int))])), (qa, .inl (dA 3, 16, .inl (fun jz => zI (fa jz)))), (ql, .inl (dA 3, 16, .inl (fun jz => zI (fl jz)))), (qf, .inl (dA 3, 16, .inl (fun jz => zI (ff jz)))), (ra_, .inl (dA 3, 16, .inl (fun jz => zI (ga jz)))), (rl_, .inl (dA 3, 16, .inl (fun jz => zI (gl jz)))), (rf_, .inl (dA 3, 16, .inl (fun jz => zI (gf jz))))]) rfl dX4_becomes_45 (fun H locs hP hD hS => ?_)
  refine lv_aload_n hx hb dX4_becomes_48 rfl (lv_at hl 0 rfl) ?_
  refine lv_aload_n hx hb dX4_becomes_49 rfl (lv_at hl 1 rfl) ?_
  refine z_get C hP 1 rfl rfl in_X4 9 (by decide) q326 rfl dX4_becomes_50 ?_
  refine z_put C hP hD hS 0 rfl rfl in_X4 tyX4_ok nmX4 9 (by decide) q326 rfl (v := .int (zI ((d : Nat) : Int))) rfl rfl (Nat.le_of_ble_eq_true rfl) (ws' := [(a, .inr (4, [.int (zI ((w : Nat) : Int)), .int (zI ((le : Nat) : Int)), .int (zI ((rg : Nat) : Int)), .int (zI ((st : Nat) : Int)), .int (zI ((sd : Nat) : Int)), .ref (ra_), .ref (rl_), .ref (rf_), .int (zI ((u : Nat) : Int)), .int (zI ((d : Nat) : Int))])), (b, .inr (4, [.int (zI ((w : Nat) : Int)), .int (zI ((le : Nat) : Int)), .int (zI ((rg : Nat) : Int)), .int (zI ((st : Nat) : Int)), .int (zI ((sd : Nat) : Int)), .ref (qa), .ref (ql), .ref (qf), .int (zI ((u : Nat) : Int)), .int (zI ((d : Nat) : Int))])), (qa, .inl (dA 3, 16, .inl (fun jz => zI (fa jz)))), (ql, .inl (dA 3, 16, .inl (fun jz => zI (fl jz)))), (qf, .inl (dA 3, 16, .inl (fun jz => zI (ff jz)))), (ra_, .inl (dA 3, 16, .inl (fun jz => zI (ga jz)))), (rl_, .inl (dA 3, 16, .inl (fun jz => zI (gl jz)))), (rf_, .inl (dA 3, 16, .inl (fun jz => zI (gf jz))))]) rfl dX4_becomes_53 (fun H locs hP hD hS => ?_)
  refine lv_aload_n hx hb dX4_becomes_56 rfl (lv_at hl 1 rfl) ?_
  refine z_get C hP 1 rfl rfl in_X4 5 (by decide) q311 rfl dX4_becomes_57 ?_
  refine z_iconst C dX4_becomes_60 ?_
  refine lv_aload_n hx hb dX4_becomes_61 rfl (lv_at hl 0 rfl) ?_
  refine z_get C hP 0 rfl rfl in_X4 5 (by decide) q311 rfl dX4_becomes_62 ?_
  refine z_iconst C dX4_becomes_65 ?_
  refine z_bipush C dX4_becomes_66 rfl ?_
  refine z_acopy C hP hD hS 2 5 rfl rfl (16) rfl (Nat.le_of_ble_eq_true rfl) (Nat.le_of_ble_eq_true rfl) (Nat.le_of_ble_eq_true rfl) q806 hl.1 (Nat.le_of_ble_eq_true rfl) (Nat.le_of_ble_eq_true rfl) (ws' := [(a, .inr (4, [.int (zI ((w : Nat) : Int)), .int (zI ((le : Nat) : Int)), .int (zI ((rg : Nat) : Int)), .int (zI ((st : Nat) : Int)), .int (zI ((sd : Nat) : Int)), .ref (ra_), .ref (rl_), .ref (rf_), .int (zI ((u : Nat) : Int)), .int (zI ((d : Nat) : Int))])), (b, .inr (4, [.int (zI ((w : Nat) : Int)), .int (zI ((le : Nat) : Int)), .int (zI ((rg : Nat) : Int)), .int (zI ((st : Nat) : Int)), .int (zI ((sd : Nat) : Int)), .ref (qa), .ref (ql), .ref (qf), .int (zI ((u : Nat) : Int)), .int (zI ((d : Nat) : Int))])), (qa, .inl (dA 3, 16, .inl (fun jz => zI (fa jz)))), (ql, .inl (dA 3, 16, .inl (fun jz => zI (fl jz)))), (qf, .inl (dA 3, 16, .inl (fun jz => zI (ff jz)))), (ra_, .inl (dA 3, 16, .inl (fun jz => zI ((cpy fa ga 16) jz)))), (rl_, .inl (dA 3, 16, .inl (fun jz => zI (gl jz)))), (rf_, .inl (dA 3, 16, .inl (fun jz => zI (gf jz))))]) rfl dX4_becomes_68 (fun H locs hP hD hS => ?_)
  refine lv_aload_n hx hb dX4_becomes_71 rfl (lv_at hl 1 rfl) ?_
  refine z_get C hP 1 rfl rfl in_X4 6 (by decide) q314 rfl dX4_becomes_72 ?_
  refine z_iconst C dX4_becomes_75 ?_
  refine lv_aload_n hx hb dX4_becomes_76 rfl (lv_at hl 0 rfl) ?_
  refine z_get C hP 0 rfl rfl in_X4 6 (by decide) q314 rfl dX4_becomes_77 ?_
  refine z_iconst C dX4_becomes_80 ?_
  refine z_bipush C dX4_becomes_81 rfl ?_
  refine z_acopy C hP hD hS 3 6 rfl rfl (16) rfl (Nat.le_of_ble_eq_true rfl) (Nat.le_of_ble_eq_true rfl) (Nat.le_of_ble_eq_true rfl) q806 hl.1 (Nat.le_of_ble_eq_true rfl) (Nat.le_of_ble_eq_true rfl) (ws' := [(a, .inr (4, [.int (zI ((w : Nat) : Int)), .int (zI ((le : Nat) : Int)), .int (zI ((rg : Nat) : Int)), .int (zI ((st : Nat) : Int)), .int (zI ((sd : Nat) : Int)), .ref (ra_), .ref (rl_), .ref (rf_), .int (zI ((u : Nat) : Int)), .int (zI ((d : Nat) : Int))])), (b, .inr (4, [.int (zI ((w : Nat) : Int)), .int (zI ((le : Nat) : Int)), .int (zI ((rg : Nat) : Int)), .int (zI ((st : Nat) : Int)), .int (zI ((sd : Nat) : Int)), .ref (qa), .ref (ql), .ref (qf), .int (zI ((u : Nat) : Int)), .int (zI ((d : Nat) : Int))])), (qa, .inl (dA 3, 16, .inl (fun jz => zI (fa jz)))), (ql, .inl (dA 3, 16, .inl (fun jz => zI (fl jz)))), (qf, .inl (dA 3, 16, .inl (fun jz => zI (ff jz)))), (ra_, .inl (dA 3, 16, .inl (fun jz => zI ((cpy fa ga 16) jz)))), (rl_, .inl (dA 3, 16, .inl (fun jz => zI ((cpy fl gl 16) jz)))), (rf_, .inl (dA 3, 16, .inl (fun jz => zI (gf jz))))]) rfl dX4_becomes_83 (fun H locs hP hD hS => ?_)
  refine lv_aload_n hx hb dX4_becomes_86 rfl (lv_at hl 1 rfl) ?_
  refine z_get C hP 1 rfl rfl in_X4 7 (by decide) q317 rfl dX4_becomes_87 ?_
  refine z_iconst C dX4_becomes_90 ?_
  refine lv_aload_n hx hb dX4_becomes_91 rfl (lv_at hl 0 rfl) ?_
  refine z_get C hP 0 rfl rfl in_X4 7 (by decide) q317 rfl dX4_becomes_92 ?_
  refine z_iconst C dX4_becomes_95 ?_
  refine z_bipush C dX4_becomes_96 rfl ?_
  refine z_acopy C hP hD hS 4 7 rfl rfl (16) rfl (Nat.le_of_ble_eq_true rfl) (Nat.le_of_ble_eq_true rfl) (Nat.le_of_ble_eq_true rfl) q806 hl.1 (Nat.le_of_ble_eq_true rfl) (Nat.le_of_ble_eq_true rfl) (ws' := [(a, .inr (4, [.int (zI ((w : Nat) : Int)), .int (zI ((le : Nat) : Int)), .int (zI ((rg : Nat) : Int)), .int (zI ((st : Nat) : Int)), .int (zI ((sd : Nat) : Int)), .ref (ra_), .ref (rl_), .ref (rf_), .int (zI ((u : Nat) : Int)), .int (zI ((d : Nat) : Int))])), (b, .inr (4, [.int (zI ((w : Nat) : Int)), .int (zI ((le : Nat) : Int)), .int (zI ((rg : Nat) : Int)), .int (zI ((st : Nat) : Int)), .int (zI ((sd : Nat) : Int)), .ref (qa), .ref (ql), .ref (qf), .int (zI ((u : Nat) : Int)), .int (zI ((d : Nat) : Int))])), (qa, .inl (dA 3, 16, .inl (fun jz => zI (fa jz)))), (ql, .inl (dA 3, 16, .inl (fun jz => zI (fl jz)))), (qf, .inl (dA 3, 16, .inl (fun jz => zI (ff jz)))), (ra_, .inl (dA 3, 16, .inl (fun jz => zI ((cpy fa ga 16) jz)))), (rl_, .inl (dA 3, 16, .inl (fun jz => zI ((cpy fl gl 16) jz)))), (rf_, .inl (dA 3, 16, .inl (fun jz => zI ((cpy ff gf 16) jz))))]) rfl dX4_becomes_98 (fun H locs hP hD hS => ?_)
  exact z_vretG C hlk hr hQ () rfl trivial (hP.sub [0, 1, 2, 3, 4, 5, 6, 7] rfl) (hD.sub [0, 1, 2, 3, 4, 5, 6, 7] (by decide) rfl) hS (Nat.le_of_ble_eq_true rfl) (Nat.le_of_ble_eq_true rfl) dX4_becomes_101
set_option maxHeartbeats 600000 in
set_option maxRecDepth 100000 in
theorem k_X4_ties_true (l : Launch) (D : va_G) (dA : Nat → ClassId) (a : Nat) (w le rg st sd u d qa ql qf : Nat) (fa fl : Nat → Int) (k : Nat) (j : Int) (hk : k < 16) : zG (S := Unit) l yX4_ties cX4_ties 4 (none) (zRmW 0 0 0 0) D dA [.ref (a), .int (zI ((k : Nat) : Int)), .int (zB (true)), .int (zI (j))] [(a, .inr (4, [.int (zI ((w : Nat) : Int)), .int (zI ((le : Nat) : Int)), .int (zI ((rg : Nat) : Int)), .int (zI ((st : Nat) : Int)), .int (zI ((sd : Nat) : Int)), .ref (qa), .ref (ql), .ref (qf), .int (zI ((u : Nat) : Int)), .int (zI ((d : Nat) : Int))])), (qa, .inl (dA 3, 16, .inl (fun jz => zI (fa jz)))), (ql, .inl (dA 3, 16, .inl (fun jz => zI (fl jz))))] (fun _ : Unit => none) (fun _ : Unit => True) (fun _ : Unit => [(a, .inr (4, [.int (zI ((w : Nat) : Int)), .int (zI ((le : Nat) : Int)), .int (zI ((rg : Nat) : Int)), .int (zI ((st : Nat) : Int)), .int (zI ((sd : Nat) : Int)), .ref (qa), .ref (ql), .ref (qf), .int (zI ((u : Nat) : Int)), .int (zI ((d : Nat) : Int))])), (qa, .inl (dA 3, 16, .inl (fun jz => zI (fa jz)))), (ql, .inl (dA 3, 16, .inl (fun jz => zI ((va_up fl k j) jz))))]) := by
  refine zG.of (by decide +kernel) rfl ?_
  intro pp ee ss mm args below meth cd Q A C hr hlk hQ hA hin H locs hP hD hS ls hl
  have hx := C.1.1
  have hb := C.1.2.1
  have hl : lv_has ls 4 [(0, .ref (a)), (1, .int (zI ((k : Nat) : Int))), (2, .int (zB (true))), (3, .int (zI (j)))] := hl
  refine lv_iload_n hx hb dX4_ties_0 rfl (lv_at hl 2 rfl) ?_
  refine z_if_eqB (tgt := 14) C dX4_ties_1 (by decide) (fun c_1 => ?_) (fun c_1 => ?_)
  · exact absurd c_1 (by decide)
  · refine lv_aload_n hx hb dX4_ties_4 rfl (lv_at hl 0 rfl) ?_
    refine z_get C hP 0 rfl rfl in_X4 6 (by decide) q314 rfl dX4_ties_5 ?_
    refine lv_iload_n hx hb dX4_ties_8 rfl (lv_at hl 1 rfl) ?_
    refine lv_iload_n hx hb dX4_ties_9 rfl (lv_at hl 3 rfl) ?_
    refine z_iast C hP hD hS 2 rfl (k) rfl (by omega) (by decide) (v := (j)) (ws' := [(a, .inr (4, [.int (zI ((w : Nat) : Int)), .int (zI ((le : Nat) : Int)), .int (zI ((rg : Nat) : Int)), .int (zI ((st : Nat) : Int)), .int (zI ((sd : Nat) : Int)), .ref (qa), .ref (ql), .ref (qf), .int (zI ((u : Nat) : Int)), .int (zI ((d : Nat) : Int))])), (qa, .inl (dA 3, 16, .inl (fun jz => zI (fa jz)))), (ql, .inl (dA 3, 16, .inl (fun jz => zI ((va_up fl k (j)) jz))))]) rfl dX4_ties_10 (fun H locs hP hD hS => ?_)
    refine lv_goto (tgt := 21) hx hb dX4_ties_11 (by decide) ?_
    exact z_vretG C hlk hr hQ () rfl trivial (hP.sub [0, 1, 2] rfl) (hD.sub [0, 1, 2] (by decide) rfl) hS (Nat.le_of_ble_eq_true rfl) (Nat.le_of_ble_eq_true rfl) dX4_ties_21
set_option maxHeartbeats 600000 in
set_option maxRecDepth 100000 in
theorem k_X4_ties_false (l : Launch) (D : va_G) (dA : Nat → ClassId) (a : Nat) (w le rg st sd u d qa ql qf : Nat) (fa fl : Nat → Int) (k : Nat) (j : Int) (hk : k < 16) : zG (S := Unit) l yX4_ties cX4_ties 4 (none) (zRmW 0 0 0 0) D dA [.ref (a), .int (zI ((k : Nat) : Int)), .int (zB (false)), .int (zI (j))] [(a, .inr (4, [.int (zI ((w : Nat) : Int)), .int (zI ((le : Nat) : Int)), .int (zI ((rg : Nat) : Int)), .int (zI ((st : Nat) : Int)), .int (zI ((sd : Nat) : Int)), .ref (qa), .ref (ql), .ref (qf), .int (zI ((u : Nat) : Int)), .int (zI ((d : Nat) : Int))])), (qa, .inl (dA 3, 16, .inl (fun jz => zI (fa jz)))), (ql, .inl (dA 3, 16, .inl (fun jz => zI (fl jz))))] (fun _ : Unit => none) (fun _ : Unit => True) (fun _ : Unit => [(a, .inr (4, [.int (zI ((w : Nat) : Int)), .int (zI ((le : Nat) : Int)), .int (zI ((rg : Nat) : Int)), .int (zI ((st : Nat) : Int)), .int (zI ((sd : Nat) : Int)), .ref (qa), .ref (ql), .ref (qf), .int (zI ((u : Nat) : Int)), .int (zI ((d : Nat) : Int))])), (qa, .inl (dA 3, 16, .inl (fun jz => zI ((va_up fa k j) jz)))), (ql, .inl (dA 3, 16, .inl (fun jz => zI (fl jz))))]) := by
  refine zG.of (by decide +kernel) rfl ?_
  intro pp ee ss mm args below meth cd Q A C hr hlk hQ hA hin H locs hP hD hS ls hl
  have hx := C.1.1
  have hb := C.1.2.1
  have hl : lv_has ls 4 [(0, .ref (a)), (1, .int (zI ((k : Nat) : Int))), (2, .int (zB (false))), (3, .int (zI (j)))] := hl
  refine lv_iload_n hx hb dX4_ties_0 rfl (lv_at hl 2 rfl) ?_
  refine z_if_eqB (tgt := 14) C dX4_ties_1 (by decide) (fun c_1 => ?_) (fun c_1 => ?_)
  · refine lv_aload_n hx hb dX4_ties_14 rfl (lv_at hl 0 rfl) ?_
    refine z_get C hP 0 rfl rfl in_X4 5 (by decide) q311 rfl dX4_ties_15 ?_
    refine lv_iload_n hx hb dX4_ties_18 rfl (lv_at hl 1 rfl) ?_
    refine lv_iload_n hx hb dX4_ties_19 rfl (lv_at hl 3 rfl) ?_
    refine z_iast C hP hD hS 1 rfl (k) rfl (by omega) (by decide) (v := (j)) (ws' := [(a, .inr (4, [.int (zI ((w : Nat) : Int)), .int (zI ((le : Nat) : Int)), .int (zI ((rg : Nat) : Int)), .int (zI ((st : Nat) : Int)), .int (zI ((sd : Nat) : Int)), .ref (qa), .ref (ql), .ref (qf), .int (zI ((u : Nat) : Int)), .int (zI ((d : Nat) : Int))])), (qa, .inl (dA 3, 16, .inl (fun jz => zI ((va_up fa k (j)) jz)))), (ql, .inl (dA 3, 16, .inl (fun jz => zI (fl jz))))]) rfl dX4_ties_20 (fun H locs hP hD hS => ?_)
    exact z_vretG C hlk hr hQ () rfl trivial (hP.sub [0, 1, 2] rfl) (hD.sub [0, 1, 2] (by decide) rfl) hS (Nat.le_of_ble_eq_true rfl) (Nat.le_of_ble_eq_true rfl) dX4_ties_21
  · exact absurd c_1 (by decide)
set_option maxHeartbeats 600000 in
set_option maxRecDepth 100000 in
theorem k_X1_of (l : Launch) (D : va_G) (dA : Nat → ClassId) (a : Nat) (x0 x1 x2 x3 x4 x5 x6 x7 : Value) (x y : Int) : zG (S := Unit) l yX1_of cX1_of 3 (some (.object "SpinStrip$Fault")) (zRmW 0 0 0 0) D dA [.ref (a), .int (zI (x)), .int (zI (y))] [(a, .inr (1, [x0, x1, x2, x3, x4, x5, x6, x7]))] (fun _ : Unit => some (.ref (a))) (fun _ : Unit => True) (fun _ : Unit => [(a, .inr (1, [x0, x1, x2, x3, x4, x5, .int (zI (x)), .int (zI (y))]))]) := by
  refine zG.of (by decide +kernel) rfl ?_
  intro pp ee ss mm args below meth cd Q A C hr hlk hQ hA hin H locs hP hD hS ls hl
  have hx := C.1.1
  have hb := C.1.2.1
  have hl : lv_has ls 3 [(0, .ref (a)), (1, .int (zI (x))), (2, .int (zI (y)))] := hl
  refine lv_aload_n hx hb dX1_of_0 rfl (lv_at hl 0 rfl) ?_
  refine lv_iload_n hx hb dX1_of_1 rfl (lv_at hl 1 rfl) ?_
  refine z_put C hP hD hS 0 rfl rfl in_X1 tyX1_ok nmX1 6 (by decide) q209 rfl (v := .int (zI (x))) rfl rfl (Nat.le_of_ble_eq_true rfl) (ws' := [(a, .inr (1, [x0, x1, x2, x3, x4, x5, .int (zI (x)), x7]))]) rfl dX1_of_2 (fun H locs hP hD hS => ?_)
  refine lv_aload_n hx hb dX1_of_5 rfl (lv_at hl 0 rfl) ?_
  refine lv_iload_n hx hb dX1_of_6 rfl (lv_at hl 2 rfl) ?_
  refine z_put C hP hD hS 0 rfl rfl in_X1 tyX1_ok nmX1 7 (by decide) q211 rfl (v := .int (zI (y))) rfl rfl (Nat.le_of_ble_eq_true rfl) (ws' := [(a, .inr (1, [x0, x1, x2, x3, x4, x5, .int (zI (x)), .int (zI (y))]))]) rfl dX1_of_7 (fun H locs hP hD hS => ?_)
  refine lv_aload_n hx hb dX1_of_10 rfl (lv_at hl 0 rfl) ?_
  exact z_aretG C hlk hr (Or.inl ⟨_, rfl⟩) hQ (Or.inr ⟨_, rfl⟩) () rfl trivial (hP.sub [0] rfl) (hD.sub [0] (by decide) rfl) hS (Nat.le_of_ble_eq_true rfl) (Nat.le_of_ble_eq_true rfl) dX1_of_11
set_option maxHeartbeats 600000 in
set_option maxRecDepth 100000 in
theorem k_X10_init (l : Launch) (D : va_G) (dA : Nat → ClassId) (a : Nat) (en : Int) (fi : Nat) : zG (S := Unit) l yX10_init cX10_init 3 (none) (zRmW 1 20 0 0) D dA [.ref (a), .int (zI (en)), .int (zI ((fi : Nat) : Int))] [(a, .inr (10, [.int (zI 0), .int (zI 0), .int (zI 0), .int (zI 0), .int (zI 0)]))] (fun _ : Unit => none) (fun _ : Unit => True) (fun _ : Unit => [(a, .inr (10, [.int (zI (en)), .int (zI ((fi : Nat) : Int)), .int (zI 0), .int (zI 16), .int (zI 0)]))]) := by
  refine zG.of (by decide +kernel) rfl ?_
  intro pp ee ss mm args below meth cd Q A C hr hlk hQ hA hin H locs hP hD hS ls hl
  have hx := C.1.1
  have hb := C.1.2.1
  have hl : lv_has ls 3 [(0, .ref (a)), (1, .int (zI (en))), (2, .int (zI ((fi : Nat) : Int)))] := hl
  refine lv_aload_n hx hb dX10_init_0 rfl (lv_at hl 0 rfl) ?_
  refine z_obj C q1001 hl.1 (Nat.le_of_ble_eq_true rfl) (Nat.le_of_ble_eq_true rfl) dX10_init_1 ?_
  refine lv_aload_n hx hb dX10_init_4 rfl (lv_at hl 0 rfl) ?_
  refine lv_iload_n hx hb dX10_init_5 rfl (lv_at hl 1 rfl) ?_
  refine z_putF C hP hD hS 0 rfl rfl in_X10 tyX10_ok nmX10 0 (by decide) q1002 rfl hin rfl rfl rfl (Nat.le_of_ble_eq_true rfl) (ws' := [(a, .inr (10, [.int (zI (en)), .int (zI 0), .int (zI 0), .int (zI 0), .int (zI 0)]))]) rfl dX10_init_6 (fun H locs hP hD hS => ?_)
  refine lv_aload_n hx hb dX10_init_9 rfl (lv_at hl 0 rfl) ?_
  refine lv_iload_n hx hb dX10_init_10 rfl (lv_at hl 2 rfl) ?_
  refine z_putF C hP hD hS 0 rfl rfl in_X10 tyX10_ok nmX10 1 (by decide) q1005 rfl hin rfl rfl rfl (Nat.le_of_ble_eq_true rfl) (ws' := [(a, .inr (10, [.int (zI (en)), .int (zI ((fi : Nat) : Int)), .int (zI 0), .int (zI 0), .int (zI 0)]))]) rfl dX10_init_11 (fun H locs hP hD hS => ?_)
  refine lv_aload_n hx hb dX10_init_14 rfl (lv_at hl 0 rfl) ?_
  refine z_bipush C dX10_init_15 rfl ?_
  refine z_put C hP hD hS 0 rfl rfl in_X10 tyX10_ok nmX10 3 (by decide) q1009 rfl (v := .int (zI 16)) rfl rfl (Nat.le_of_ble_eq_true rfl) (ws' := [(a, .inr (10, [.int (zI (en)), .int (zI ((fi : Nat) : Int)), .int (zI 0), .int (zI 16), .int (zI 0)]))]) rfl dX10_init_17 (fun H locs hP hD hS => ?_)
  exact z_vretG C hlk hr hQ () rfl trivial (hP.sub [0] rfl) (hD.sub [0] (by decide) rfl) hS (Nat.le_of_ble_eq_true rfl) (Nat.le_of_ble_eq_true rfl) dX10_init_20
set_option maxHeartbeats 600000 in
set_option maxRecDepth 100000 in
theorem k_X10_adds (l : Launch) (D : va_G) (dA : Nat → ClassId) (a : Nat) (en : Int) (fi mn fw mo k : Nat) (h1 : fw ≤ 100) (h2 : mo ≤ 100) (h3 : k ≤ 100) : zG (S := Unit) l yX10_adds cX10_adds 2 (none) (zRmW 1 24 0 0) D dA [.ref (a), .int (zI ((k : Nat) : Int))] [(a, .inr (10, [.int (zI (en)), .int (zI ((fi : Nat) : Int)), .int (zI ((mn : Nat) : Int)), .int (zI ((fw : Nat) : Int)), .int (zI ((mo : Nat) : Int))]))] (fun _ : Unit => none) (fun _ : Unit => True) (fun _ : Unit => [(a, .inr (10, [.int (zI (en)), .int (zI ((fi : Nat) : Int)), .int (zI ((mn + 1 : Nat) : Int)), .int (zI ((min fw k : Nat) : Int)), .int (zI ((max mo k : Nat) : Int))]))]) := by
  refine zG.of (by decide +kernel) rfl ?_
  intro pp ee ss mm args below meth cd Q A C hr hlk hQ hA hin H locs hP hD hS ls hl
  have hx := C.1.1
  have hb := C.1.2.1
  have hl : lv_has ls 2 [(0, .ref (a)), (1, .int (zI ((k : Nat) : Int)))] := hl
  refine lv_aload_n hx hb dX10_adds_0 rfl (lv_at hl 0 rfl) ?_
  refine lv_dup hx hb dX10_adds_1 rfl ?_
  refine z_get C hP 0 rfl rfl in_X10 2 (by decide) q1006 rfl dX10_adds_2 ?_
  refine z_iconst C dX10_adds_5 ?_
  refine z_iaddN C (mn) (1) rfl rfl dX10_adds_6 ?_
  refine z_put C hP hD hS 0 rfl rfl in_X10 tyX10_ok nmX10 2 (by decide) q1006 rfl (v := .int (zI (((mn + 1) : Nat) : Int))) rfl rfl (Nat.le_of_ble_eq_true rfl) (ws' := [(a, .inr (10, [.int (zI (en)), .int (zI ((fi : Nat) : Int)), .int (zI (((mn + 1) : Nat) : Int)), .int (zI ((fw : Nat) : Int)), .int (zI ((mo : Nat) : Int))]))]) rfl dX10_adds_7 (fun H locs hP hD hS => ?_)
  refine lv_aload_n hx hb dX10_adds_10 rfl (lv_at hl 0 rfl) ?_
  refine lv_aload_n hx hb dX10_adds_11 rfl (lv_at hl 0 rfl) ?_
  refine z_get C hP 0 rfl rfl in_X10 3 (by decide) q1009 rfl dX10_adds_12 ?_
  refine lv_iload_n hx hb dX10_adds_15 rfl (lv_at hl 1 rfl) ?_
  refine z_mmin C ⟨by omega, by omega⟩ ⟨by omega, by omega⟩ q1342 hl.1 (Nat.le_of_ble_eq_true rfl) (Nat.le_of_ble_eq_true rfl) (Nat.zero_le _) (Nat.zero_le _) dX10_adds_16 ?_
  refine z_nm (fun mi_1 e_mi_1 => ?_)
  obtain rfl : mi_1 = ((min fw k : Nat) : Int) := by rw [e_mi_1]; split <;> omega
  refine z_put C hP hD hS 0 rfl rfl in_X10 tyX10_ok nmX10 3 (by decide) q1009 rfl (v := .int (zI ((min fw k : Nat) : Int))) rfl rfl (Nat.le_of_ble_eq_true rfl) (ws' := [(a, .inr (10, [.int (zI (en)), .int (zI ((fi : Nat) : Int)), .int (zI (((mn + 1) : Nat) : Int)), .int (zI ((min fw k : Nat) : Int)), .int (zI ((mo : Nat) : Int))]))]) rfl dX10_adds_19 (fun H locs hP hD hS => ?_)
  refine lv_aload_n hx hb dX10_adds_22 rfl (lv_at hl 0 rfl) ?_
  refine lv_aload_n hx hb dX10_adds_23 rfl (lv_at hl 0 rfl) ?_
  refine z_get C hP 0 rfl rfl in_X10 4 (by decide) q1010 rfl dX10_adds_24 ?_
  refine lv_iload_n hx hb dX10_adds_27 rfl (lv_at hl 1 rfl) ?_
  refine z_mmax C ⟨by omega, by omega⟩ ⟨by omega, by omega⟩ q1343 hl.1 (Nat.le_of_ble_eq_true rfl) (Nat.le_of_ble_eq_true rfl) (Nat.zero_le _) (Nat.zero_le _) dX10_adds_28 ?_
  refine z_nm (fun ma_2 e_ma_2 => ?_)
  obtain rfl : ma_2 = ((max mo k : Nat) : Int) := by rw [e_ma_2]; split <;> omega
  refine z_put C hP hD hS 0 rfl rfl in_X10 tyX10_ok nmX10 4 (by decide) q1010 rfl (v := .int (zI ((max mo k : Nat) : Int))) rfl rfl (Nat.le_of_ble_eq_true rfl) (ws' := [(a, .inr (10, [.int (zI (en)), .int (zI ((fi : Nat) : Int)), .int (zI (((mn + 1) : Nat) : Int)), .int (zI ((min fw k : Nat) : Int)), .int (zI ((max mo k : Nat) : Int))]))]) rfl dX10_adds_31 (fun H locs hP hD hS => ?_)
  exact z_vretG C hlk hr hQ () rfl trivial (hP.sub [0] rfl) (hD.sub [0] (by decide) rfl) hS (Nat.le_of_ble_eq_true rfl) (Nat.le_of_ble_eq_true rfl) dX10_adds_34
set_option maxHeartbeats 600000 in
set_option maxRecDepth 100000 in
theorem k_X10_told (l : Launch) (D : va_G) (dA : Nat → ClassId) (a : Nat) (en : Int) (fi mn fw mo : Nat) (x : Int) (h1 : zR x) : zM l yX10_told cX10_told 2 (some .int) (zRm 0 0) D dA [.ref (a), .int (zI (x))] [(a, .inr (10, [.int (zI (en)), .int (zI ((fi : Nat) : Int)), .int (zI ((mn : Nat) : Int)), .int (zI ((fw : Nat) : Int)), .int (zI ((mo : Nat) : Int))]))] (some (.int (zI (if x = 0 then en else if x = 1 then ((mn : Nat) : Int) else if x = 2 then ((fi : Nat) : Int) else if x = 3 then ((fw : Nat) : Int) else ((mo : Nat) : Int))))) := by
  refine zM.of (by decide +kernel) rfl ?_
  intro pp ee ss mm args below meth cd Q C hr hlk hQ hP ls hl
  have hx := C.1.1
  have hb := C.1.2.1
  have hl : lv_has ls 2 [(0, .ref (a)), (1, .int (zI (x)))] := hl
  refine lv_iload_n hx hb dX10_told_0 rfl (lv_at hl 1 rfl) ?_
  refine z_if_ne (tgt := 11) C ⟨by omega, by omega⟩ dX10_told_1 (by decide) (fun c_1 => ?_) (fun c_1 => ?_)
  · refine lv_iload_n hx hb dX10_told_11 rfl (lv_at hl 1 rfl) ?_
    refine z_iconst C dX10_told_12 ?_
    refine z_icmp_ne (tgt := 23) C ⟨by omega, by omega⟩ ⟨by decide, by decide⟩ dX10_told_13 (by decide) (fun c_13 => ?_) (fun c_13 => ?_)
    · refine lv_iload_n hx hb dX10_told_23 rfl (lv_at hl 1 rfl) ?_
      refine z_iconst C dX10_told_24 ?_
      refine z_icmp_ne (tgt := 35) C ⟨by omega, by omega⟩ ⟨by decide, by decide⟩ dX10_told_25 (by decide) (fun c_25 => ?_) (fun c_25 => ?_)
      · refine lv_iload_n hx hb dX10_told_35 rfl (lv_at hl 1 rfl) ?_
        refine z_iconst C dX10_told_36 ?_
        refine z_icmp_ne (tgt := 47) C ⟨by omega, by omega⟩ ⟨by decide, by decide⟩ dX10_told_37 (by decide) (fun c_37 => ?_) (fun c_37 => ?_)
        · refine lv_aload_n hx hb dX10_told_47 rfl (lv_at hl 0 rfl) ?_
          refine z_get C hP 0 rfl rfl in_X10 4 (by decide) q1010 rfl dX10_told_48 ?_
          exact z_iret C hlk hr hQ (by first | (rw [if_pos (by omega)]; done) | (rw [if_neg (by omega), if_pos (by omega)]; done) | (rw [if_neg (by omega), if_neg (by omega), if_pos (by omega)]; done) | (rw [if_neg (by omega), if_neg (by omega), if_neg (by omega), if_pos (by omega)]; done) | (rw [if_neg (by omega), if_neg (by omega), if_neg (by omega), if_neg (by omega)]; done)) dX10_told_51
        · refine lv_aload_n hx hb dX10_told_40 rfl (lv_at hl 0 rfl) ?_
          refine z_get C hP 0 rfl rfl in_X10 3 (by decide) q1009 rfl dX10_told_41 ?_
          refine lv_goto (tgt := 51) hx hb dX10_told_44 (by decide) ?_
          exact z_iret C hlk hr hQ (by first | (rw [if_pos (by omega)]; done) | (rw [if_neg (by omega), if_pos (by omega)]; done) | (rw [if_neg (by omega), if_neg (by omega), if_pos (by omega)]; done) | (rw [if_neg (by omega), if_neg (by omega), if_neg (by omega), if_pos (by omega)]; done) | (rw [if_neg (by omega), if_neg (by omega), if_neg (by omega), if_neg (by omega)]; done)) dX10_told_51
      · refine lv_aload_n hx hb dX10_told_28 rfl (lv_at hl 0 rfl) ?_
        refine z_get C hP 0 rfl rfl in_X10 1 (by decide) q1005 rfl dX10_told_29 ?_
        refine lv_goto (tgt := 51) hx hb dX10_told_32 (by decide) ?_
        exact z_iret C hlk hr hQ (by first | (rw [if_pos (by omega)]; done) | (rw [if_neg (by omega), if_pos (by omega)]; done) | (rw [if_neg (by omega), if_neg (by omega), if_pos (by omega)]; done) | (rw [if_neg (by omega), if_neg (by omega), if_neg (by omega), if_pos (by omega)]; done) | (rw [if_neg (by omega), if_neg (by omega), if_neg (by omega), if_neg (by omega)]; done)) dX10_told_51
    · refine lv_aload_n hx hb dX10_told_16 rfl (lv_at hl 0 rfl) ?_
      refine z_get C hP 0 rfl rfl in_X10 2 (by decide) q1006 rfl dX10_told_17 ?_
      refine lv_goto (tgt := 51) hx hb dX10_told_20 (by decide) ?_
      exact z_iret C hlk hr hQ (by first | (rw [if_pos (by omega)]; done) | (rw [if_neg (by omega), if_pos (by omega)]; done) | (rw [if_neg (by omega), if_neg (by omega), if_pos (by omega)]; done) | (rw [if_neg (by omega), if_neg (by omega), if_neg (by omega), if_pos (by omega)]; done) | (rw [if_neg (by omega), if_neg (by omega), if_neg (by omega), if_neg (by omega)]; done)) dX10_told_51
  · refine lv_aload_n hx hb dX10_told_4 rfl (lv_at hl 0 rfl) ?_
    refine z_get C hP 0 rfl rfl in_X10 0 (by decide) q1002 rfl dX10_told_5 ?_
    refine lv_goto (tgt := 51) hx hb dX10_told_8 (by decide) ?_
    exact z_iret C hlk hr hQ (by first | (rw [if_pos (by omega)]; done) | (rw [if_neg (by omega), if_pos (by omega)]; done) | (rw [if_neg (by omega), if_neg (by omega), if_pos (by omega)]; done) | (rw [if_neg (by omega), if_neg (by omega), if_neg (by omega), if_pos (by omega)]; done) | (rw [if_neg (by omega), if_neg (by omega), if_neg (by omega), if_neg (by omega)]; done)) dX10_told_51
