def tb2 (tf : Nat → Int) (tp k : Nat) : Int := if k < tp then tf k else 0
theorem tb2_b {tf : Nat → Int} (h : ∀ j, -128 ≤ tf j ∧ tf j ≤ 127) (tp k : Nat) : -128 ≤ tb2 tf tp k ∧ tb2 tf tp k ≤ 127 := by
  have := h k
  unfold tb2
  split <;> omega
theorem i8_id {v : Int} (h : -128 ≤ v ∧ v ≤ 127) : i8 v = v := by
  have h1 : (Int32.toInt8 (zI v)).toInt32 = zI (i8 v) := i8_eq v
  have h2 : (Int32.toInt8 (zI v)).toInt32 = zI v := nar_byte h
  have h3 := i8_b v
  exact zI_inj ⟨by omega, by omega⟩ ⟨by omega, by omega⟩ (h1.symm.trans h2)
def nuN (tf : Nat → Int) (x : Nat) : Nat → Int
  | 0 => 0
  | j + 1 => 10 * nuN tf x j + tf (x + j) - 48
set_option maxHeartbeats 600000 in
set_option maxRecDepth 100000 in
theorem k_X2_at (l : Launch) (D : va_G) (dA : Nat → ClassId) (a qt tp qs qf qo qw mn : Nat) (xw : Value) (tf : Nat → Int) (k : Nat) (htp : tp ≤ 2000) (hk : k < 100000) : zM l yX2_at cX2_at 2 (some .int) (zRm 0 0) D dA [.ref (a), .int (zI ((k : Nat) : Int))] [(a, .inr (2, [xw, .ref (qt), .int (zI ((tp : Nat) : Int)), .ref (qs), .ref (qf), .ref (qo), .ref (qw), .int (zI ((mn : Nat) : Int))])), (qt, .inl (dA 1, 2000, .inl (fun jz => zI (tf jz))))] (some (.int (zI (tb2 tf tp k)))) := by
  refine zM.of (by decide +kernel) rfl ?_
  intro pp ee ss mm args below meth cd Q C hr hlk hQ hP ls hl
  have hx := C.1.1
  have hb := C.1.2.1
  have hl : lv_has ls 2 [(0, .ref (a)), (1, .int (zI ((k : Nat) : Int)))] := hl
  refine lv_iload_n hx hb dX2_at_0 rfl (lv_at hl 1 rfl) ?_
  refine lv_aload_n hx hb dX2_at_1 rfl (lv_at hl 0 rfl) ?_
  refine z_get C hP 0 rfl rfl in_X2 2 (by decide) q253 rfl dX2_at_2 ?_
  refine z_icmp_ge (tgt := 17) C ⟨by omega, by omega⟩ ⟨by omega, by omega⟩ dX2_at_5 (by decide) (fun c_5 => ?_) (fun c_5 => ?_)
  · refine z_iconst C dX2_at_17 ?_
    exact z_iret C hlk hr hQ (by unfold tb2; first | (rw [if_pos (by omega)]; done) | (rw [if_neg (by omega)]; done)) dX2_at_18
  · refine lv_aload_n hx hb dX2_at_8 rfl (lv_at hl 0 rfl) ?_
    refine z_get C hP 0 rfl rfl in_X2 1 (by decide) q251 rfl dX2_at_9 ?_
    refine lv_iload_n hx hb dX2_at_12 rfl (lv_at hl 1 rfl) ?_
    refine z_bald C hP 1 rfl (k) rfl (by omega) (by decide) dX2_at_13 ?_
    refine lv_goto (tgt := 18) hx hb dX2_at_14 (by decide) ?_
    exact z_iret C hlk hr hQ (by unfold tb2; first | (rw [if_pos (by omega)]; done) | (rw [if_neg (by omega)]; done)) dX2_at_18
set_option maxHeartbeats 600000 in
set_option maxRecDepth 100000 in
theorem k_X2_isDigit (l : Launch) (D : va_G) (dA : Nat → ClassId) (a qt tp qs qf qo qw mn : Nat) (xw : Value) (tf : Nat → Int) (k : Nat) (htp : tp ≤ 2000) (btf : ∀ j, -128 ≤ tf j ∧ tf j ≤ 127) (hk : k < 100000) : zM l yX2_isDigit cX2_isDigit 2 (some .boolean) (zRm 1 21) D dA [.ref (a), .int (zI ((k : Nat) : Int))] [(a, .inr (2, [xw, .ref (qt), .int (zI ((tp : Nat) : Int)), .ref (qs), .ref (qf), .ref (qo), .ref (qw), .int (zI ((mn : Nat) : Int))])), (qt, .inl (dA 1, 2000, .inl (fun jz => zI (tf jz))))] (some (.int (zB (isD (tb2 tf tp k))))) := by
  refine zM.of (by decide +kernel) rfl ?_
  intro pp ee ss mm args below meth cd Q C hr hlk hQ hP ls hl
  have hx := C.1.1
  have hb := C.1.2.1
  have hl : lv_has ls 2 [(0, .ref (a)), (1, .int (zI ((k : Nat) : Int)))] := hl
  have t9 := tb2_b btf tp k
  refine lv_aload_n hx hb dX2_isDigit_0 rfl (lv_at hl 0 rfl) ?_
  refine lv_iload_n hx hb dX2_isDigit_1 rfl (lv_at hl 1 rfl) ?_
  refine z_cV (n := 1) (As := [.int (zI ((k : Nat) : Int))]) (rest := []) C hP (k_X2_at l D dA (a) (qt) (tp) (qs) (qf) (qo) (qw) (mn) (xw) (tf) (k) (by first | with_reducible assumption | omega | with_reducible rfl) (by first | with_reducible assumption | omega | with_reducible rfl)) (lw_V q614 q616 qs3 q113 q617) (by decide +kernel) rfl ⟨Nat.le_of_ble_eq_true rfl, Nat.le_of_ble_eq_true rfl⟩ hl.1 (hP.sub [0, 1] rfl) 0 rfl rfl rfl (Nat.le_of_ble_eq_true rfl) dX2_isDigit_2 (Nat.zero_le _) (Nat.zero_le _) ?_
  refine z_bipush C dX2_isDigit_5 rfl ?_
  refine z_icmp_lt (tgt := 24) C ⟨by omega, by omega⟩ ⟨by decide, by decide⟩ dX2_isDigit_7 (by decide) (fun c_7 => ?_) (fun c_7 => ?_)
  · refine z_iconst C dX2_isDigit_24 ?_
    exact z_zret0 C hlk hr hQ (decide_eq_false (by omega)) dX2_isDigit_25
  · refine lv_aload_n hx hb dX2_isDigit_10 rfl (lv_at hl 0 rfl) ?_
    refine lv_iload_n hx hb dX2_isDigit_11 rfl (lv_at hl 1 rfl) ?_
    refine z_cV (n := 1) (As := [.int (zI ((k : Nat) : Int))]) (rest := []) C hP (k_X2_at l D dA (a) (qt) (tp) (qs) (qf) (qo) (qw) (mn) (xw) (tf) (k) (by first | with_reducible assumption | omega | with_reducible rfl) (by first | with_reducible assumption | omega | with_reducible rfl)) (lw_V q614 q616 qs3 q113 q617) (by decide +kernel) rfl ⟨Nat.le_of_ble_eq_true rfl, Nat.le_of_ble_eq_true rfl⟩ hl.1 (hP.sub [0, 1] rfl) 0 rfl rfl rfl (Nat.le_of_ble_eq_true rfl) dX2_isDigit_12 (Nat.zero_le _) (Nat.zero_le _) ?_
    refine z_bipush C dX2_isDigit_15 rfl ?_
    refine z_icmp_gt (tgt := 24) C ⟨by omega, by omega⟩ ⟨by decide, by decide⟩ dX2_isDigit_17 (by decide) (fun c_17 => ?_) (fun c_17 => ?_)
    · refine z_iconst C dX2_isDigit_24 ?_
      exact z_zret0 C hlk hr hQ (decide_eq_false (by omega)) dX2_isDigit_25
    · refine z_iconst C dX2_isDigit_20 ?_
      refine lv_goto (tgt := 25) hx hb dX2_isDigit_21 (by decide) ?_
      exact z_zret1 C hlk hr hQ (decide_eq_true (by omega)) dX2_isDigit_25
set_option maxHeartbeats 600000 in
set_option maxRecDepth 100000 in
theorem k_X2_isLetter (l : Launch) (D : va_G) (dA : Nat → ClassId) (a qt tp qs qf qo qw mn : Nat) (xw : Value) (tf : Nat → Int) (k : Nat) (htp : tp ≤ 2000) (btf : ∀ j, -128 ≤ tf j ∧ tf j ≤ 127) (hk : k < 100000) : zM l yX2_isLetter cX2_isLetter 2 (some .boolean) (zRm 1 21) D dA [.ref (a), .int (zI ((k : Nat) : Int))] [(a, .inr (2, [xw, .ref (qt), .int (zI ((tp : Nat) : Int)), .ref (qs), .ref (qf), .ref (qo), .ref (qw), .int (zI ((mn : Nat) : Int))])), (qt, .inl (dA 1, 2000, .inl (fun jz => zI (tf jz))))] (some (.int (zB (isL (tb2 tf tp k))))) := by
  refine zM.of (by decide +kernel) rfl ?_
  intro pp ee ss mm args below meth cd Q C hr hlk hQ hP ls hl
  have hx := C.1.1
  have hb := C.1.2.1
  have hl : lv_has ls 2 [(0, .ref (a)), (1, .int (zI ((k : Nat) : Int)))] := hl
  have t9 := tb2_b btf tp k
  refine lv_aload_n hx hb dX2_isLetter_0 rfl (lv_at hl 0 rfl) ?_
  refine lv_iload_n hx hb dX2_isLetter_1 rfl (lv_at hl 1 rfl) ?_
  refine z_cV (n := 1) (As := [.int (zI ((k : Nat) : Int))]) (rest := []) C hP (k_X2_at l D dA (a) (qt) (tp) (qs) (qf) (qo) (qw) (mn) (xw) (tf) (k) (by first | with_reducible assumption | omega | with_reducible rfl) (by first | with_reducible assumption | omega | with_reducible rfl)) (lw_V q614 q616 qs3 q113 q617) (by decide +kernel) rfl ⟨Nat.le_of_ble_eq_true rfl, Nat.le_of_ble_eq_true rfl⟩ hl.1 (hP.sub [0, 1] rfl) 0 rfl rfl rfl (Nat.le_of_ble_eq_true rfl) dX2_isLetter_2 (Nat.zero_le _) (Nat.zero_le _) ?_
  refine z_bipush C dX2_isLetter_5 rfl ?_
  refine z_icmp_lt (tgt := 24) C ⟨by omega, by omega⟩ ⟨by decide, by decide⟩ dX2_isLetter_7 (by decide) (fun c_7 => ?_) (fun c_7 => ?_)
  · refine z_iconst C dX2_isLetter_24 ?_
    exact z_zret0 C hlk hr hQ (decide_eq_false (by omega)) dX2_isLetter_25
  · refine lv_aload_n hx hb dX2_isLetter_10 rfl (lv_at hl 0 rfl) ?_
    refine lv_iload_n hx hb dX2_isLetter_11 rfl (lv_at hl 1 rfl) ?_
    refine z_cV (n := 1) (As := [.int (zI ((k : Nat) : Int))]) (rest := []) C hP (k_X2_at l D dA (a) (qt) (tp) (qs) (qf) (qo) (qw) (mn) (xw) (tf) (k) (by first | with_reducible assumption | omega | with_reducible rfl) (by first | with_reducible assumption | omega | with_reducible rfl)) (lw_V q614 q616 qs3 q113 q617) (by decide +kernel) rfl ⟨Nat.le_of_ble_eq_true rfl, Nat.le_of_ble_eq_true rfl⟩ hl.1 (hP.sub [0, 1] rfl) 0 rfl rfl rfl (Nat.le_of_ble_eq_true rfl) dX2_isLetter_12 (Nat.zero_le _) (Nat.zero_le _) ?_
    refine z_bipush C dX2_isLetter_15 rfl ?_
    refine z_icmp_gt (tgt := 24) C ⟨by omega, by omega⟩ ⟨by decide, by decide⟩ dX2_isLetter_17 (by decide) (fun c_17 => ?_) (fun c_17 => ?_)
    · refine z_iconst C dX2_isLetter_24 ?_
      exact z_zret0 C hlk hr hQ (decide_eq_false (by omega)) dX2_isLetter_25
    · refine z_iconst C dX2_isLetter_20 ?_
      refine lv_goto (tgt := 25) hx hb dX2_isLetter_21 (by decide) ?_
      exact z_zret1 C hlk hr hQ (decide_eq_true (by omega)) dX2_isLetter_25
set_option maxHeartbeats 600000 in
set_option maxRecDepth 100000 in
theorem k_X2_add (l : Launch) (D : va_G) (dA : Nat → ClassId) (a qt tp qs qf qo qw mn : Nat) (xw : Value) (so fr to wh : Nat → Int) (s x y v : Int) (hm : mn < 2001) (h1 : -128 ≤ s ∧ s ≤ 127) (h2 : -32768 ≤ x ∧ x ≤ 32767) (h3 : -32768 ≤ y ∧ y ≤ 32767) (h4 : -32768 ≤ v ∧ v ≤ 32767) : zG (S := Unit) l yX2_add cX2_add 5 (none) (zRmW 0 0 0 0) D dA [.ref (a), .int (zI (s)), .int (zI (x)), .int (zI (y)), .int (zI (v))] [(a, .inr (2, [xw, .ref (qt), .int (zI ((tp : Nat) : Int)), .ref (qs), .ref (qf), .ref (qo), .ref (qw), .int (zI ((mn : Nat) : Int))])), (qs, .inl (dA 1, 2001, .inl (fun jz => zI (so jz)))), (qf, .inl (dA 2, 2001, .inl (fun jz => zI (fr jz)))), (qo, .inl (dA 2, 2001, .inl (fun jz => zI (to jz)))), (qw, .inl (dA 2, 2001, .inl (fun jz => zI (wh jz))))] (fun _ : Unit => none) (fun _ : Unit => True) (fun _ : Unit => [(a, .inr (2, [xw, .ref (qt), .int (zI ((tp : Nat) : Int)), .ref (qs), .ref (qf), .ref (qo), .ref (qw), .int (zI ((mn + 1 : Nat) : Int))])), (qs, .inl (dA 1, 2001, .inl (fun jz => zI ((va_up so mn s) jz)))), (qf, .inl (dA 2, 2001, .inl (fun jz => zI ((va_up fr mn x) jz)))), (qo, .inl (dA 2, 2001, .inl (fun jz => zI ((va_up to mn y) jz)))), (qw, .inl (dA 2, 2001, .inl (fun jz => zI ((va_up wh mn v) jz))))]) := by
  refine zG.of (by decide +kernel) rfl ?_
  intro pp ee ss mm args below meth cd Q A C hr hlk hQ hA hin H locs hP hD hS ls hl
  have hx := C.1.1
  have hb := C.1.2.1
  have hl : lv_has ls 5 [(0, .ref (a)), (1, .int (zI (s))), (2, .int (zI (x))), (3, .int (zI (y))), (4, .int (zI (v)))] := hl
  refine lv_aload_n hx hb dX2_add_0 rfl (lv_at hl 0 rfl) ?_
  refine z_get C hP 0 rfl rfl in_X2 3 (by decide) q255 rfl dX2_add_1 ?_
  refine lv_aload_n hx hb dX2_add_4 rfl (lv_at hl 0 rfl) ?_
  refine z_get C hP 0 rfl rfl in_X2 7 (by decide) q262 rfl dX2_add_5 ?_
  refine lv_iload_n hx hb dX2_add_8 rfl (lv_at hl 1 rfl) ?_
  refine z_i2b C dX2_add_9 ?_
  rw [i8_id h1]
  refine z_bast C hP hD hS 1 rfl (mn) rfl (by omega) (by decide) (v := (s)) ⟨by omega, by omega⟩ (ws' := [(a, .inr (2, [xw, .ref (qt), .int (zI ((tp : Nat) : Int)), .ref (qs), .ref (qf), .ref (qo), .ref (qw), .int (zI ((mn : Nat) : Int))])), (qs, .inl (dA 1, 2001, .inl (fun jz => zI ((va_up so mn (s)) jz)))), (qf, .inl (dA 2, 2001, .inl (fun jz => zI (fr jz)))), (qo, .inl (dA 2, 2001, .inl (fun jz => zI (to jz)))), (qw, .inl (dA 2, 2001, .inl (fun jz => zI (wh jz))))]) rfl dX2_add_10 (fun H locs hP hD hS => ?_)
  refine lv_aload_n hx hb dX2_add_11 rfl (lv_at hl 0 rfl) ?_
  refine z_get C hP 0 rfl rfl in_X2 4 (by decide) q257 rfl dX2_add_12 ?_
  refine lv_aload_n hx hb dX2_add_15 rfl (lv_at hl 0 rfl) ?_
  refine z_get C hP 0 rfl rfl in_X2 7 (by decide) q262 rfl dX2_add_16 ?_
  refine lv_iload_n hx hb dX2_add_19 rfl (lv_at hl 2 rfl) ?_
  refine z_i2s C ⟨by omega, by omega⟩ dX2_add_20 ?_
  refine z_sast C hP hD hS 2 rfl (mn) rfl (by omega) (by decide) (v := (x)) ⟨by omega, by omega⟩ (ws' := [(a, .inr (2, [xw, .ref (qt), .int (zI ((tp : Nat) : Int)), .ref (qs), .ref (qf), .ref (qo), .ref (qw), .int (zI ((mn : Nat) : Int))])), (qs, .inl (dA 1, 2001, .inl (fun jz => zI ((va_up so mn (s)) jz)))), (qf, .inl (dA 2, 2001, .inl (fun jz => zI ((va_up fr mn (x)) jz)))), (qo, .inl (dA 2, 2001, .inl (fun jz => zI (to jz)))), (qw, .inl (dA 2, 2001, .inl (fun jz => zI (wh jz))))]) rfl dX2_add_21 (fun H locs hP hD hS => ?_)
  refine lv_aload_n hx hb dX2_add_22 rfl (lv_at hl 0 rfl) ?_
  refine z_get C hP 0 rfl rfl in_X2 5 (by decide) q259 rfl dX2_add_23 ?_
  refine lv_aload_n hx hb dX2_add_26 rfl (lv_at hl 0 rfl) ?_
  refine z_get C hP 0 rfl rfl in_X2 7 (by decide) q262 rfl dX2_add_27 ?_
  refine lv_iload_n hx hb dX2_add_30 rfl (lv_at hl 3 rfl) ?_
  refine z_i2s C ⟨by omega, by omega⟩ dX2_add_31 ?_
  refine z_sast C hP hD hS 3 rfl (mn) rfl (by omega) (by decide) (v := (y)) ⟨by omega, by omega⟩ (ws' := [(a, .inr (2, [xw, .ref (qt), .int (zI ((tp : Nat) : Int)), .ref (qs), .ref (qf), .ref (qo), .ref (qw), .int (zI ((mn : Nat) : Int))])), (qs, .inl (dA 1, 2001, .inl (fun jz => zI ((va_up so mn (s)) jz)))), (qf, .inl (dA 2, 2001, .inl (fun jz => zI ((va_up fr mn (x)) jz)))), (qo, .inl (dA 2, 2001, .inl (fun jz => zI ((va_up to mn (y)) jz)))), (qw, .inl (dA 2, 2001, .inl (fun jz => zI (wh jz))))]) rfl dX2_add_32 (fun H locs hP hD hS => ?_)
  refine lv_aload_n hx hb dX2_add_33 rfl (lv_at hl 0 rfl) ?_
  refine z_get C hP 0 rfl rfl in_X2 6 (by decide) q260 rfl dX2_add_34 ?_
  refine lv_aload_n hx hb dX2_add_37 rfl (lv_at hl 0 rfl) ?_
  refine z_get C hP 0 rfl rfl in_X2 7 (by decide) q262 rfl dX2_add_38 ?_
  refine lv_iload hx hb dX2_add_41 (lv_at hl 4 rfl) ?_
  refine z_i2s C ⟨by omega, by omega⟩ dX2_add_43 ?_
  refine z_sast C hP hD hS 4 rfl (mn) rfl (by omega) (by decide) (v := (v)) ⟨by omega, by omega⟩ (ws' := [(a, .inr (2, [xw, .ref (qt), .int (zI ((tp : Nat) : Int)), .ref (qs), .ref (qf), .ref (qo), .ref (qw), .int (zI ((mn : Nat) : Int))])), (qs, .inl (dA 1, 2001, .inl (fun jz => zI ((va_up so mn (s)) jz)))), (qf, .inl (dA 2, 2001, .inl (fun jz => zI ((va_up fr mn (x)) jz)))), (qo, .inl (dA 2, 2001, .inl (fun jz => zI ((va_up to mn (y)) jz)))), (qw, .inl (dA 2, 2001, .inl (fun jz => zI ((va_up wh mn (v)) jz))))]) rfl dX2_add_44 (fun H locs hP hD hS => ?_)
  refine lv_aload_n hx hb dX2_add_45 rfl (lv_at hl 0 rfl) ?_
  refine lv_dup hx hb dX2_add_46 rfl ?_
  refine z_get C hP 0 rfl rfl in_X2 7 (by decide) q262 rfl dX2_add_47 ?_
  refine z_iconst C dX2_add_50 ?_
  refine z_iaddN C (mn) (1) rfl rfl dX2_add_51 ?_
  refine z_put C hP hD hS 0 rfl rfl in_X2 tyX2_ok nmX2 7 (by decide) q262 rfl (v := .int (zI (((mn + 1) : Nat) : Int))) rfl rfl (Nat.le_of_ble_eq_true rfl) (ws' := [(a, .inr (2, [xw, .ref (qt), .int (zI ((tp : Nat) : Int)), .ref (qs), .ref (qf), .ref (qo), .ref (qw), .int (zI (((mn + 1) : Nat) : Int))])), (qs, .inl (dA 1, 2001, .inl (fun jz => zI ((va_up so mn (s)) jz)))), (qf, .inl (dA 2, 2001, .inl (fun jz => zI ((va_up fr mn (x)) jz)))), (qo, .inl (dA 2, 2001, .inl (fun jz => zI ((va_up to mn (y)) jz)))), (qw, .inl (dA 2, 2001, .inl (fun jz => zI ((va_up wh mn (v)) jz))))]) rfl dX2_add_52 (fun H locs hP hD hS => ?_)
  exact z_vretG C hlk hr hQ () rfl trivial (hP.sub [0, 1, 2, 3, 4] rfl) (hD.sub [0, 1, 2, 3, 4] (by decide) rfl) hS (Nat.le_of_ble_eq_true rfl) (Nat.le_of_ble_eq_true rfl) dX2_add_55
set_option maxHeartbeats 600000 in
set_option maxRecDepth 100000 in
theorem k_X2_isSign (l : Launch) (D : va_G) (dA : Nat → ClassId) (a qt tp qs qf qo qw mn : Nat) (xw : Value) (so wh : Nat → Int) (t : Nat) (k : Int) (ht : t < 2001) (hk : zR k) (bs : ∀ j, -128 ≤ so j ∧ so j ≤ 127) (bw : ∀ j, -32768 ≤ wh j ∧ wh j ≤ 32767) : zM l yX2_isSign cX2_isSign 3 (some .boolean) (zRm 0 0) D dA [.ref (a), .int (zI ((t : Nat) : Int)), .int (zI (k))] [(a, .inr (2, [xw, .ref (qt), .int (zI ((tp : Nat) : Int)), .ref (qs), .ref (qf), .ref (qo), .ref (qw), .int (zI ((mn : Nat) : Int))])), (qs, .inl (dA 1, 2001, .inl (fun jz => zI (so jz)))), (qw, .inl (dA 2, 2001, .inl (fun jz => zI (wh jz))))] (some (.int (zB (decide (so t = 2 ∧ wh t = k))))) := by
  refine zM.of (by decide +kernel) rfl ?_
  intro pp ee ss mm args below meth cd Q C hr hlk hQ hP ls hl
  have hx := C.1.1
  have hb := C.1.2.1
  have hl : lv_has ls 3 [(0, .ref (a)), (1, .int (zI ((t : Nat) : Int))), (2, .int (zI (k)))] := hl
  have b1 := bs t
  have b2 := bw t
  refine lv_aload_n hx hb dX2_isSign_0 rfl (lv_at hl 0 rfl) ?_
  refine z_get C hP 0 rfl rfl in_X2 3 (by decide) q255 rfl dX2_isSign_1 ?_
  refine lv_iload_n hx hb dX2_isSign_4 rfl (lv_at hl 1 rfl) ?_
  refine z_bald C hP 1 rfl (t) rfl (by omega) (by decide) dX2_isSign_5 ?_
  refine z_iconst C dX2_isSign_6 ?_
  refine z_icmp_ne (tgt := 24) C ⟨by omega, by omega⟩ ⟨by decide, by decide⟩ dX2_isSign_7 (by decide) (fun c_7 => ?_) (fun c_7 => ?_)
  · refine z_iconst C dX2_isSign_24 ?_
    exact z_zret0 C hlk hr hQ (decide_eq_false (by omega)) dX2_isSign_25
  · refine lv_aload_n hx hb dX2_isSign_10 rfl (lv_at hl 0 rfl) ?_
    refine z_get C hP 0 rfl rfl in_X2 6 (by decide) q260 rfl dX2_isSign_11 ?_
    refine lv_iload_n hx hb dX2_isSign_14 rfl (lv_at hl 1 rfl) ?_
    refine z_sald C hP 2 rfl (t) rfl (by omega) (by decide) dX2_isSign_15 ?_
    refine lv_iload_n hx hb dX2_isSign_16 rfl (lv_at hl 2 rfl) ?_
    refine z_icmp_ne (tgt := 24) C ⟨by omega, by omega⟩ ⟨by omega, by omega⟩ dX2_isSign_17 (by decide) (fun c_17 => ?_) (fun c_17 => ?_)
    · refine z_iconst C dX2_isSign_24 ?_
      exact z_zret0 C hlk hr hQ (decide_eq_false (by omega)) dX2_isSign_25
    · refine z_iconst C dX2_isSign_20 ?_
      refine lv_goto (tgt := 25) hx hb dX2_isSign_21 (by decide) ?_
      exact z_zret1 C hlk hr hQ (decide_eq_true (by omega)) dX2_isSign_25
set_option maxHeartbeats 600000 in
set_option maxRecDepth 100000 in
theorem k_X2_isWord (l : Launch) (D : va_G) (dA : Nat → ClassId) (a qt tp qs qf qo qw mn : Nat) (xw : Value) (so wh : Nat → Int) (t : Nat) (k : Int) (ht : t < 2001) (hk : zR k) (bs : ∀ j, -128 ≤ so j ∧ so j ≤ 127) (bw : ∀ j, -32768 ≤ wh j ∧ wh j ≤ 32767) : zM l yX2_isWord cX2_isWord 3 (some .boolean) (zRm 0 0) D dA [.ref (a), .int (zI ((t : Nat) : Int)), .int (zI (k))] [(a, .inr (2, [xw, .ref (qt), .int (zI ((tp : Nat) : Int)), .ref (qs), .ref (qf), .ref (qo), .ref (qw), .int (zI ((mn : Nat) : Int))])), (qs, .inl (dA 1, 2001, .inl (fun jz => zI (so jz)))), (qw, .inl (dA 2, 2001, .inl (fun jz => zI (wh jz))))] (some (.int (zB (decide (so t = 0 ∧ wh t = k))))) := by
  refine zM.of (by decide +kernel) rfl ?_
  intro pp ee ss mm args below meth cd Q C hr hlk hQ hP ls hl
  have hx := C.1.1
  have hb := C.1.2.1
  have hl : lv_has ls 3 [(0, .ref (a)), (1, .int (zI ((t : Nat) : Int))), (2, .int (zI (k)))] := hl
  have b1 := bs t
  have b2 := bw t
  refine lv_aload_n hx hb dX2_isWord_0 rfl (lv_at hl 0 rfl) ?_
  refine z_get C hP 0 rfl rfl in_X2 3 (by decide) q255 rfl dX2_isWord_1 ?_
  refine lv_iload_n hx hb dX2_isWord_4 rfl (lv_at hl 1 rfl) ?_
  refine z_bald C hP 1 rfl (t) rfl (by omega) (by decide) dX2_isWord_5 ?_
  refine z_if_ne (tgt := 23) C ⟨by omega, by omega⟩ dX2_isWord_6 (by decide) (fun c_6 => ?_) (fun c_6 => ?_)
  · refine z_iconst C dX2_isWord_23 ?_
    exact z_zret0 C hlk hr hQ (decide_eq_false (by omega)) dX2_isWord_24
  · refine lv_aload_n hx hb dX2_isWord_9 rfl (lv_at hl 0 rfl) ?_
    refine z_get C hP 0 rfl rfl in_X2 6 (by decide) q260 rfl dX2_isWord_10 ?_
    refine lv_iload_n hx hb dX2_isWord_13 rfl (lv_at hl 1 rfl) ?_
    refine z_sald C hP 2 rfl (t) rfl (by omega) (by decide) dX2_isWord_14 ?_
    refine lv_iload_n hx hb dX2_isWord_15 rfl (lv_at hl 2 rfl) ?_
    refine z_icmp_ne (tgt := 23) C ⟨by omega, by omega⟩ ⟨by omega, by omega⟩ dX2_isWord_16 (by decide) (fun c_16 => ?_) (fun c_16 => ?_)
    · refine z_iconst C dX2_isWord_23 ?_
      exact z_zret0 C hlk hr hQ (decide_eq_false (by omega)) dX2_isWord_24
    · refine z_iconst C dX2_isWord_19 ?_
      refine lv_goto (tgt := 24) hx hb dX2_isWord_20 (by decide) ?_
      exact z_zret1 C hlk hr hQ (decide_eq_true (by omega)) dX2_isWord_24
set_option maxHeartbeats 600000 in
set_option maxRecDepth 100000 in
theorem k_X2_number (l : Launch) (D : va_G) (dA : Nat → ClassId) (a qt tp qs qf qo qw mn : Nat) (xw : Value) (tf fr to : Nat → Int) (t x y : Nat) (ht : t < 2001) (hf : fr t = (x : Int)) (ho : to t = (y : Int)) (hxy : x ≤ y ∧ y ≤ 2000) : zM l yX2_number cX2_number 4 (some .int) (zRm 0 0) D dA [.ref (a), .int (zI ((t : Nat) : Int))] [(a, .inr (2, [xw, .ref (qt), .int (zI ((tp : Nat) : Int)), .ref (qs), .ref (qf), .ref (qo), .ref (qw), .int (zI ((mn : Nat) : Int))])), (qt, .inl (dA 1, 2000, .inl (fun jz => zI (tf jz)))), (qf, .inl (dA 2, 2001, .inl (fun jz => zI (fr jz)))), (qo, .inl (dA 2, 2001, .inl (fun jz => zI (to jz))))] (some (.int (zI (nuN tf x (y - x))))) := by
  refine zM.of (by decide +kernel) rfl ?_
  intro pp ee ss mm args below meth cd Q C hr hlk hQ hP ls hl
  have hx := C.1.1
  have hb := C.1.2.1
  have hl : lv_has ls 4 [(0, .ref (a)), (1, .int (zI ((t : Nat) : Int)))] := hl
  refine z_iconst C dX2_number_0 ?_
  refine lv_istore_n (lv' := [(2, .int (zI 0)), (0, .ref (a)), (1, .int (zI ((t : Nat) : Int)))]) hx hb dX2_number_1 rfl hl (by decide) rfl (fun ls hl => ?_)
  refine lv_aload_n hx hb dX2_number_2 rfl (lv_at hl 1 rfl) ?_
  refine z_get C hP 0 rfl rfl in_X2 4 (by decide) q257 rfl dX2_number_3 ?_
  refine lv_iload_n hx hb dX2_number_6 rfl (lv_at hl 2 rfl) ?_
  refine z_sald C hP 2 rfl (t) rfl (by omega) (by decide) dX2_number_7 ?_
  rw [hf]
  refine lv_istore_n (lv' := [(3, .int (zI ((x : Nat) : Int))), (2, .int (zI 0)), (0, .ref (a)), (1, .int (zI ((t : Nat) : Int)))]) hx hb dX2_number_8 rfl hl (by decide) rfl (fun ls hl => ?_)
  have L9 : ∀ (N : Nat) (k : Nat) (v : Int), (x ≤ k ∧ k ≤ y) → (v = nuN tf x (k - x)) → (y - k) < N → ∀ ls : Array Slot, lv_has ls 4 [(0, .ref (a)), (1, .int (zI ((t : Nat) : Int))), (2, .int (zI (v))), (3, .int (zI ((k : Nat) : Int)))] → W pp l ee (zRm 0 0) ss mm args below meth cd ss.heap [] 0 0 Q (F0 mm 9 ls []) := by
    intro N
    induction N with
    | zero => intro k v _ _ hm; exact absurd hm (Nat.not_lt_zero _)
    | succ N ih9 =>
      intro k v hk hs hmz9 ls hl
      refine lv_iload_n hx hb dX2_number_9 rfl (lv_at hl 3 rfl) ?_
      refine lv_aload_n hx hb dX2_number_10 rfl (lv_at hl 0 rfl) ?_
      refine z_get C hP 0 rfl rfl in_X2 5 (by decide) q259 rfl dX2_number_11 ?_
      refine lv_iload_n hx hb dX2_number_14 rfl (lv_at hl 1 rfl) ?_
      refine z_sald C hP 3 rfl (t) rfl (by omega) (by decide) dX2_number_15 ?_
      rw [ho]
      refine z_icmp_ge (tgt := 40) C ⟨by omega, by omega⟩ ⟨by omega, by omega⟩ dX2_number_16 (by decide) (fun c_16 => ?_) (fun c_16 => ?_)
      · refine lv_iload_n hx hb dX2_number_40 rfl (lv_at hl 2 rfl) ?_
        exact z_iret C hlk hr hQ (by rw [hs, show k = y by omega]) dX2_number_41
      · refine z_bipush C dX2_number_19 rfl ?_
        refine lv_iload_n hx hb dX2_number_21 rfl (lv_at hl 2 rfl) ?_
        refine z_imul C dX2_number_22 ?_
        refine lv_aload_n hx hb dX2_number_23 rfl (lv_at hl 0 rfl) ?_
        refine z_get C hP 0 rfl rfl in_X2 1 (by decide) q251 rfl dX2_number_24 ?_
        refine lv_iload_n hx hb dX2_number_27 rfl (lv_at hl 3 rfl) ?_
        refine z_bald C hP 1 rfl (k) rfl (by omega) (by decide) dX2_number_28 ?_
        refine z_iadd C dX2_number_29 ?_
        refine z_bipush C dX2_number_30 rfl ?_
        refine z_isub C dX2_number_32 ?_
        refine lv_istore_n (lv' := [(2, .int (zI (((10 * (v)) + (tf k)) - 48))), (0, .ref (a)), (1, .int (zI ((t : Nat) : Int))), (3, .int (zI ((k : Nat) : Int)))]) hx hb dX2_number_33 rfl hl (by decide) rfl (fun ls hl => ?_)
        refine lv_iinc (v := zI ((k + 1 : Nat) : Int)) (lv' := [(3, .int (zI ((k + 1 : Nat) : Int))), (2, .int (zI (((10 * (v)) + (tf k)) - 48))), (0, .ref (a)), (1, .int (zI ((t : Nat) : Int)))]) hx hb dX2_number_34 hl (k := 3) rfl (zI_inc (by omega)) (by decide) rfl (fun ls hl => ?_)
        refine lv_goto (tgt := 9) hx hb dX2_number_37 (by decide) ?_
        exact ih9 (k + 1) ((((10 * (v)) + (tf k)) - 48)) (by first | with_reducible assumption | omega | with_reducible rfl) (by rw [show k + 1 - x = k - x + 1 by omega]; simp only [nuN]; rw [← hs, show x + (k - x) = k by omega]) (by omega) ls (lv_sub hl [2, 3, 1, 0] rfl)
  exact L9 ((y - x) + 1) (x) (0) (by first | with_reducible assumption | omega | with_reducible rfl) (by rw [Nat.sub_self]; rfl) (by omega) ls (lv_sub hl [2, 3, 1, 0] rfl)
