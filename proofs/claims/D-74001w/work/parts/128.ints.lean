/-! Integers (printed by tools/s_int.py) -/
set_option maxHeartbeats 600000 in
set_option maxRecDepth 100000 in
theorem k_J14_intValue (l : Launch) (D : va_G) (dA : Nat → ClassId) (en : Nat → Nat → Nat) (a : Nat) (v : Int) : zN l yJ14_intValue cJ14_intValue 1 (some .int) (zRm 0 0) en ([(a, v)], []) D dA [.ref (a)] [] (some (.int (zI (v)))) := by
  refine zN.of (by decide +kernel) rfl ?_
  intro pp ee ss mm args below meth cd Q C hr hlk hQ hV hP ls hl
  have hx := C.1.1
  have hb := C.1.2.1
  have hl : lv_has ls 1 [(0, .ref (a))] := hl
  refine lv_aload_n hx hb dJ14_intValue_0 rfl (lv_at hl 0 rfl) ?_
  refine z_ivalN C hV List.mem_cons_self q1038 dJ14_intValue_1 ?_
  exact z_iret C hlk hr hQ (by first | rfl | omega) dJ14_intValue_4

set_option maxHeartbeats 600000 in
set_option maxRecDepth 100000 in
theorem k_J14_compareTo_2 (l : Launch) (D : va_G) (dA : Nat → ClassId) (en : Nat → Nat → Nat) (a b : Nat) (v w : Int) (hv : -2147483648 ≤ v ∧ v ≤ 2147483647) (hw : -2147483648 ≤ w ∧ w ≤ 2147483647) : zN l yJ14_compareTo_2 cJ14_compareTo_2 2 (some .int) (zRm 1 21) en ([(a, v), (b, w)], []) D dA [.ref (a), .ref (b)] [] (some (.int (zI (if v < w then -1 else if v = w then 0 else 1)))) := by
  refine zN.of (by decide +kernel) rfl ?_
  intro pp ee ss mm args below meth cd Q C hr hlk hQ hV hP ls hl
  have hx := C.1.1
  have hb := C.1.2.1
  have hl : lv_has ls 2 [(0, .ref (a)), (1, .ref (b))] := hl
  refine lv_aload_n hx hb dJ14_compareTo_2_0 rfl (lv_at hl 0 rfl) ?_
  refine z_ivalN C hV List.mem_cons_self q1038 dJ14_compareTo_2_1 ?_
  refine lv_aload_n hx hb dJ14_compareTo_2_4 rfl (lv_at hl 1 rfl) ?_
  refine z_ivalN C hV (List.mem_cons_of_mem _ List.mem_cons_self) q1038 dJ14_compareTo_2_5 ?_
  refine z_cS (n := 2) (As := [.int (zI (v)), .int (zI (w))]) (rest := []) C (k_J14_compare l D dA ((v)) ((w)) (by first | with_reducible assumption | omega | with_reducible rfl) (by first | with_reducible assumption | omega | with_reducible rfl)) (lw_S q1084 q1085 q133 q1086) (by decide +kernel) rfl ⟨Nat.le_of_ble_eq_true rfl, Nat.le_of_ble_eq_true rfl⟩ hl.1 (hP.sub [] rfl) rfl (Nat.le_of_ble_eq_true rfl) dJ14_compareTo_2_8 (Nat.zero_le _) (Nat.zero_le _) ?_
  exact z_iret C hlk hr hQ (by first | rfl | omega) dJ14_compareTo_2_11

set_option maxHeartbeats 600000 in
set_option maxRecDepth 100000 in
theorem k_J14_compareTo (l : Launch) (D : va_G) (dA : Nat → ClassId) (en : Nat → Nat → Nat) (a b : Nat) (v w : Int) (hv : -2147483648 ≤ v ∧ v ≤ 2147483647) (hw : -2147483648 ≤ w ∧ w ≤ 2147483647) : zN l yJ14_compareTo cJ14_compareTo 2 (some .int) (zRm 2 42) en ([(a, v), (b, w)], []) D dA [.ref (a), .ref (b)] [] (some (.int (zI (if v < w then -1 else if v = w then 0 else 1)))) := by
  refine zN.of (by decide +kernel) rfl ?_
  intro pp ee ss mm args below meth cd Q C hr hlk hQ hV hP ls hl
  have hx := C.1.1
  have hb := C.1.2.1
  have hl : lv_has ls 2 [(0, .ref (a)), (1, .ref (b))] := hl
  refine lv_aload_n hx hb dJ14_compareTo_0 rfl (lv_at hl 0 rfl) ?_
  refine lv_aload_n hx hb dJ14_compareTo_1 rfl (lv_at hl 1 rfl) ?_
  refine z_castE C (hV.2.icell (List.mem_cons_of_mem _ List.mem_cons_self)) q1029 dJ14_compareTo_2 ?_
  refine z_nV (n := 1) (As := [.ref (b)]) (rest := []) C hV (k_J14_compareTo_2 l D dA en (a) (b) (v) (w) (by first | with_reducible assumption | omega | with_reducible rfl) (by first | with_reducible assumption | omega | with_reducible rfl)) (lw_V q1080 q1081 q1082 q133 q1083) (by decide +kernel) rfl ⟨Nat.le_of_ble_eq_true rfl, Nat.le_of_ble_eq_true rfl⟩ hl.1 (hP.sub [] rfl) (hV.2.icell List.mem_cons_self) rfl (Nat.le_of_ble_eq_true rfl) dJ14_compareTo_5 (Nat.zero_le _) (Nat.zero_le _) ?_
  exact z_iret C hlk hr hQ (by first | rfl | omega) dJ14_compareTo_8

set_option maxHeartbeats 600000 in
set_option maxRecDepth 100000 in
theorem k_J13_init (l : Launch) (D : va_G) (dA : Nat → ClassId) (a : Nat) : zG (S := Unit) l yJ13_init cJ13_init 1 (none) (zRmW 1 20 0 0) D dA [.ref (a)] [] (fun _ : Unit => none) (fun _ : Unit => True) (fun _ : Unit => []) := by
  refine zG.of (by decide +kernel) rfl ?_
  intro pp ee ss mm args below meth cd Q A C hr hlk hQ hA hin H locs hP hD hS ls hl
  have hx := C.1.1
  have hb := C.1.2.1
  have hl : lv_has ls 1 [(0, .ref (a))] := hl
  refine lv_aload_n hx hb dJ13_init_0 rfl (lv_at hl 0 rfl) ?_
  refine z_obj C q1037 hl.1 (Nat.le_of_ble_eq_true rfl) (Nat.le_of_ble_eq_true rfl) dJ13_init_1 ?_
  exact z_vretG C hlk hr hQ () rfl trivial (hP.sub [] rfl) (hD.sub [] (by decide) rfl) hS (Nat.le_of_ble_eq_true rfl) (Nat.le_of_ble_eq_true rfl) dJ13_init_4

set_option maxHeartbeats 600000 in
set_option maxRecDepth 100000 in
theorem k_J14_init (l : Launch) (D : va_G) (dA : Nat → ClassId) (a : Nat) (v : Int) : zG (S := Unit) l yJ14_init cJ14_init 2 (none) (zRmW 2 40 0 0) D dA [.ref (a), .int (zI (v))] [(a, .inr (17, [.int (zI 0)]))] (fun _ : Unit => none) (fun _ : Unit => True) (fun _ : Unit => [(a, .inr (17, [.int (zI (v))]))]) := by
  refine zG.of (by decide +kernel) rfl ?_
  intro pp ee ss mm args below meth cd Q A C hr hlk hQ hA hin H locs hP hD hS ls hl
  have hx := C.1.1
  have hb := C.1.2.1
  have hl : lv_has ls 2 [(0, .ref (a)), (1, .int (zI (v)))] := hl
  refine lv_aload_n hx hb dJ14_init_0 rfl (lv_at hl 0 rfl) ?_
  refine z_gI (n := 0) (As := []) (rest := []) (wc := []) (wr := [(a, .inr (17, [.int (zI 0)]))]) C hP hD hS hA [] [0] rfl rfl (by decide) (by decide) (by decide) (k_J13_init l D dA (a)) q1036 q132 q1034 q1035 rfl (by decide +kernel) rfl ⟨Nat.le_of_ble_eq_true rfl, Nat.le_of_ble_eq_true rfl⟩ hl.1 rfl (Nat.le_of_ble_eq_true rfl) dJ14_init_1 (by decide) (by decide) (fun _ H locs hp_1 hP hD hS _ => ?_)
  have hP := hP.sub (ws' := [(a, .inr (17, [.int (zI 0)]))]) [0] rfl
  have hD := hD.sub (ws' := [(a, .inr (17, [.int (zI 0)]))]) [0] (by decide) rfl
  refine W.widen (k := 0) (n := 0) (Nat.le_of_ble_eq_true rfl) (Nat.le_of_ble_eq_true rfl) ?_
  refine lv_aload_n hx hb dJ14_init_4 rfl (lv_at hl 0 rfl) ?_
  refine lv_iload_n hx hb dJ14_init_5 rfl (lv_at hl 1 rfl) ?_
  refine z_putF C hP hD hS 0 rfl rfl in_J14 tyJ14_ok nmJ14 0 (by decide) q1038 rfl hin rfl rfl rfl (Nat.le_of_ble_eq_true rfl) (ws' := [(a, .inr (17, [.int (zI (v))]))]) rfl dJ14_init_6 (fun H locs hP hD hS => ?_)
  exact z_vretG C hlk hr hQ () rfl trivial (hP.sub [0] rfl) (hD.sub [0] (by decide) rfl) hS (Nat.le_of_ble_eq_true rfl) (Nat.le_of_ble_eq_true rfl) dJ14_init_9

set_option maxHeartbeats 600000 in
set_option maxRecDepth 100000 in
theorem k_J14_valueOf_old (l : Launch) (D : va_G) (dA : Nat → ClassId) (B : Nat) (en : Nat → Nat → Nat) (v : Int) (hv : -128 ≤ v ∧ v ≤ 127) : zH (S := Unit) l yJ14_valueOf cJ14_valueOf 1 (some (.object "java/lang/Integer")) (zRmW 0 0 0 0) B en ([], []) D dA [.int (zI (v))] [] (fun _ : Unit => some (.ref (en 0 (v + 128).toNat))) (fun _ : Unit => True) (fun _ : Unit => []) := by
  refine zH.of (by decide +kernel) rfl ?_
  intro pp ee ss mm args below meth cd Q A C hr hlk hQ hA hV hin H locs hP hD hS ls hl
  have hx := C.1.1
  have hb := C.1.2.1
  have hl : lv_has ls 1 [(0, .int (zI (v)))] := hl
  refine lv_iload_n hx hb dJ14_valueOf_0 rfl (lv_at hl 0 rfl) ?_
  refine z_bipush C dJ14_valueOf_1 rfl ?_
  refine z_icmp_lt (tgt := 23) C ⟨by omega, by omega⟩ ⟨by decide, by decide⟩ dJ14_valueOf_3 (by decide) (fun c_3 => ?_) (fun c_3 => ?_)
  · omega
  · refine lv_iload_n hx hb dJ14_valueOf_6 rfl (lv_at hl 0 rfl) ?_
    refine z_gets C (v := .int (zI 127)) hV.own.2.2.2.1 hS q1025 dJ14_valueOf_7 ?_
    refine z_icmp_gt (tgt := 23) C ⟨by omega, by omega⟩ ⟨by decide, by decide⟩ dJ14_valueOf_10 (by decide) (fun c_10 => ?_) (fun c_10 => ?_)
    · omega
    · refine z_gets C (v := .ref (en 1 0)) hV.own.2.1 hS q1027 dJ14_valueOf_13 ?_
      refine lv_iload_n hx hb dJ14_valueOf_16 rfl (lv_at hl 0 rfl) ?_
      refine z_sipush C dJ14_valueOf_17 rfl ?_
      refine z_iadd C dJ14_valueOf_20 ?_
      refine z_tald C hV hS ((v + 128).toNat) (by omega) (by omega) dJ14_valueOf_21 ?_
      exact z_aretG C hlk hr (Or.inl ⟨_, rfl⟩) hQ (Or.inr ⟨_, rfl⟩) () rfl trivial (hP.sub [] rfl) (hD.sub [] (by decide) rfl) hS (Nat.le_of_ble_eq_true rfl) (Nat.le_of_ble_eq_true rfl) dJ14_valueOf_22

set_option maxHeartbeats 600000 in
set_option maxRecDepth 100000 in
theorem k_J14_valueOf_new (l : Launch) (D : va_G) (dA : Nat → ClassId) (B : Nat) (en : Nat → Nat → Nat) (v : Int) (hv : -2147483648 ≤ v ∧ v ≤ 2147483647) (hn : v < -128 ∨ 127 < v) : zH (S := Nat) l yJ14_valueOf cJ14_valueOf 1 (some (.object "java/lang/Integer")) (zRmW 3 61 1 1) B en ([], []) D dA [.int (zI (v))] [] (fun u : Nat => some (.ref (u))) (fun u : Nat => True) (fun u : Nat => [(u, .inr (17, [.int (zI (v))]))]) := by
  refine zH.of (by decide +kernel) rfl ?_
  intro pp ee ss mm args below meth cd Q A C hr hlk hQ hA hV hin H locs hP hD hS ls hl
  have hx := C.1.1
  have hb := C.1.2.1
  have hl : lv_has ls 1 [(0, .int (zI (v)))] := hl
  refine lv_iload_n hx hb dJ14_valueOf_0 rfl (lv_at hl 0 rfl) ?_
  refine z_bipush C dJ14_valueOf_1 rfl ?_
  refine z_icmp_lt (tgt := 23) C ⟨by omega, by omega⟩ ⟨by decide, by decide⟩ dJ14_valueOf_3 (by decide) (fun c_3 => ?_) (fun c_3 => ?_)
  · refine z_new C hP hD hS hA 17 rfl in_J14 tyJ14_ok q1029 q1030 q133 (fs := [.int (zI 0)]) (fun j hj => match j, hj with | 0, _ => rfl | (z + 1), h => absurd h (by omega)) (Nat.le_of_ble_eq_true rfl) (Nat.le_of_ble_eq_true rfl) dJ14_valueOf_23 (fun na_1 H hP hD hS => ?_)
    have hP : va_P D vwCl [(na_1, .inr (17, [.int (zI 0)]))] H := hP
    have hD : va_D A [(na_1, .inr (17, [.int (zI 0)]))] := hD
    refine lv_dup hx hb dJ14_valueOf_26 rfl ?_
    refine lv_iload_n hx hb dJ14_valueOf_27 rfl (lv_at hl 0 rfl) ?_
    refine z_gI (n := 1) (As := [.int (zI (v))]) (rest := [.ref (na_1)]) (wc := [(na_1, .inr (17, [.int (zI 0)]))]) (wr := []) C hP hD hS hA [0] [] rfl rfl (by decide) (by decide) (by decide) (k_J14_init l D dA (na_1) ((v))) q1033 q133 q1031 q1032 rfl (by decide +kernel) rfl ⟨Nat.le_of_ble_eq_true rfl, Nat.le_of_ble_eq_true rfl⟩ hl.1 rfl (Nat.le_of_ble_eq_true rfl) dJ14_valueOf_28 (by decide) (by decide) (fun _ H locs hp_28 hP hD hS _ => ?_)
    have hP := hP.sub (ws' := [(na_1, .inr (17, [.int (zI (((v))))]))]) [0] rfl
    have hD := hD.sub (ws' := [(na_1, .inr (17, [.int (zI (((v))))]))]) [0] (by decide) rfl
    refine W.widen (k := 1) (n := 1) (Nat.le_of_ble_eq_true rfl) (Nat.le_of_ble_eq_true rfl) ?_
    exact z_aretG C hlk hr (Or.inl ⟨_, rfl⟩) hQ (Or.inr ⟨_, rfl⟩) (na_1) rfl trivial (hP.sub [0] rfl) (hD.sub [0] (by decide) rfl) hS (Nat.le_of_ble_eq_true rfl) (Nat.le_of_ble_eq_true rfl) dJ14_valueOf_31
  · refine lv_iload_n hx hb dJ14_valueOf_6 rfl (lv_at hl 0 rfl) ?_
    refine z_gets C (v := .int (zI 127)) hV.own.2.2.2.1 hS q1025 dJ14_valueOf_7 ?_
    refine z_icmp_gt (tgt := 23) C ⟨by omega, by omega⟩ ⟨by decide, by decide⟩ dJ14_valueOf_10 (by decide) (fun c_10 => ?_) (fun c_10 => ?_)
    · refine z_new C hP hD hS hA 17 rfl in_J14 tyJ14_ok q1029 q1030 q133 (fs := [.int (zI 0)]) (fun j hj => match j, hj with | 0, _ => rfl | (z + 1), h => absurd h (by omega)) (Nat.le_of_ble_eq_true rfl) (Nat.le_of_ble_eq_true rfl) dJ14_valueOf_23 (fun na_2 H hP hD hS => ?_)
      have hP : va_P D vwCl [(na_2, .inr (17, [.int (zI 0)]))] H := hP
      have hD : va_D A [(na_2, .inr (17, [.int (zI 0)]))] := hD
      refine lv_dup hx hb dJ14_valueOf_26 rfl ?_
      refine lv_iload_n hx hb dJ14_valueOf_27 rfl (lv_at hl 0 rfl) ?_
      refine z_gI (n := 1) (As := [.int (zI (v))]) (rest := [.ref (na_2)]) (wc := [(na_2, .inr (17, [.int (zI 0)]))]) (wr := []) C hP hD hS hA [0] [] rfl rfl (by decide) (by decide) (by decide) (k_J14_init l D dA (na_2) ((v))) q1033 q133 q1031 q1032 rfl (by decide +kernel) rfl ⟨Nat.le_of_ble_eq_true rfl, Nat.le_of_ble_eq_true rfl⟩ hl.1 rfl (Nat.le_of_ble_eq_true rfl) dJ14_valueOf_28 (by decide) (by decide) (fun _ H locs hp_28 hP hD hS _ => ?_)
      have hP := hP.sub (ws' := [(na_2, .inr (17, [.int (zI (((v))))]))]) [0] rfl
      have hD := hD.sub (ws' := [(na_2, .inr (17, [.int (zI (((v))))]))]) [0] (by decide) rfl
      refine W.widen (k := 1) (n := 1) (Nat.le_of_ble_eq_true rfl) (Nat.le_of_ble_eq_true rfl) ?_
      exact z_aretG C hlk hr (Or.inl ⟨_, rfl⟩) hQ (Or.inr ⟨_, rfl⟩) (na_2) rfl trivial (hP.sub [0] rfl) (hD.sub [0] (by decide) rfl) hS (Nat.le_of_ble_eq_true rfl) (Nat.le_of_ble_eq_true rfl) dJ14_valueOf_31
    · omega
