def mkE (es un : Nat) : Nat := if un = 40 then (es + 1) % 40 else es
def mkU (un : Nat) : Nat := if un = 40 then 40 else un + 1
def mkA (es un : Nat) : Nat := if un = 40 then 66 * (((es + 1) % 40 + 39) % 40) else 66 * ((es + un) % 40)
theorem k_X9_marksU (l : Launch) (D : va_G) (dA : Nat → ClassId) (a : Nat) (v0 v1 v2 v3 v4 v5 v6 v7 v8 v9 v10 v11 v12 v13 v14 v15 v16 v22 v23 v24 v25 v26 v33 v34 v35 v36 v37 v38 v39 v40 v41 v42 v43 v44 : Value) (w le es un qn qr qh qi : Nat) (ra rl kn : Bool) (nw er : Nat → Int) (hes : es < 40) (hun : un ≤ 40) : zG (S := Unit) l yX9_marks cX9_marks 3 (none) (zRmW 0 0 0 0) D dA [.ref a] [(a, .inr (9, [v0, v1, v2, v3, v4, v5, v6, v7, v8, v9, v10, v11, v12, v13, v14, v15, v16, .int (zI ((w : Nat) : Int)), .int (zI ((le : Nat) : Int)), .int (zB (ra)), .int (zB (rl)), .ref (qn), v22, v23, v24, v25, v26, .ref (qr), .int (zI ((es : Nat) : Int)), .int (zI ((un : Nat) : Int)), .ref (qh), .ref (qi), .int (zB (kn)), v33, v34, v35, v36, v37, v38, v39, v40, v41, v42, v43, v44])), (qn, .inl (dA 3, 66, .inl (fun jz => zI (nw jz)))), (qr, .inl (dA 3, 2640, .inl (fun jz => zI (er jz))))] (fun _ : Unit => none) (fun _ : Unit => True) (fun _ : Unit => [(a, .inr (9, [v0, v1, v2, v3, v4, v5, v6, v7, v8, v9, v10, v11, v12, v13, v14, v15, v16, .int (zI ((w : Nat) : Int)), .int (zI ((le : Nat) : Int)), .int (zB (ra)), .int (zB (rl)), .ref (qn), v22, v23, v24, v25, v26, .ref (qr), .int (zI ((mkE es un : Nat) : Int)), .int (zI ((mkU un : Nat) : Int)), .ref (qh), .ref (qi), .int (zB (kn)), v33, v34, v35, v36, v37, v38, v39, v40, v41, v42, v43, v44])), (qn, .inl (dA 3, 66, .inl (fun jz => zI (nw jz)))), (qr, .inl (dA 3, 2640, .inl (fun jz => zI ((cpN er (fun i => mkA es un + i) nw (fun i => i) 66) jz))))]) := by
  by_cases h : un = 40
  · subst h
    exact k_X9_marks_full l D dA a v0 v1 v2 v3 v4 v5 v6 v7 v8 v9 v10 v11 v12 v13 v14 v15 v16 v22 v23 v24 v25 v26 v33 v34 v35 v36 v37 v38 v39 v40 v41 v42 v43 v44 w le es qn qr qh qi ra rl kn nw er hes
  · rw [show mkU un = un + 1 from if_neg h, show mkE es un = es from if_neg h, show mkA es un = 66 * ((es + un) % 40) from if_neg h]
    exact k_X9_marks l D dA a v0 v1 v2 v3 v4 v5 v6 v7 v8 v9 v10 v11 v12 v13 v14 v15 v16 v22 v23 v24 v25 v26 v33 v34 v35 v36 v37 v38 v39 v40 v41 v42 v43 v44 w le es un qn qr qh qi ra rl kn nw er hes (by omega)
theorem jw_big {f : Nat → Int} (bo : ∀ j, -1000000 ≤ f j ∧ f j ≤ 1000000) (k : Nat) (al : Bool) : -1000000 ≤ jw f (fun j => f (16 + j)) k al ∧ jw f (fun j => f (16 + j)) k al ≤ 1000000 := by
  unfold jw
  split <;> exact bo _
set_option maxHeartbeats 600000 in
set_option maxRecDepth 100000 in
theorem k_X9_turn (l : Launch) (D : va_G) (dA : Nat → ClassId) (a : Nat) (v0 v1 v2 v3 v4 v5 v6 v7 v8 v9 v10 v11 v12 v13 v14 v15 v16 v22 v23 v24 v25 v26 v33 v34 v35 v36 v37 v38 v39 v40 v41 v42 v43 v44 : Value) (w le es un qn qr qh qi : Nat) (ra rl kn : Bool) (nw er : Nat → Int) (k st : Nat) (hwl : w * le ≤ 16) (hes : es < 40) (hun : un ≤ 40) (hk : k < w * le) (bo : ∀ j, -1000000 ≤ nw j ∧ nw j ≤ 1000000) (hp : nw (48 + k) ≤ 0) (h64 : nw 64 = (st : Int)) (hst : st < 65536) : zG (S := Unit) l yX9_turn cX9_turn 2 (some .boolean) (zRmW 2 43 0 0) D dA [.ref (a), .int (zI ((k : Nat) : Int))] [(a, .inr (9, [v0, v1, v2, v3, v4, v5, v6, v7, v8, v9, v10, v11, v12, v13, v14, v15, v16, .int (zI ((w : Nat) : Int)), .int (zI ((le : Nat) : Int)), .int (zB (ra)), .int (zB (rl)), .ref (qn), v22, v23, v24, v25, v26, .ref (qr), .int (zI ((es : Nat) : Int)), .int (zI ((un : Nat) : Int)), .ref (qh), .ref (qi), .int (zB (kn)), v33, v34, v35, v36, v37, v38, v39, v40, v41, v42, v43, v44])), (qn, .inl (dA 3, 66, .inl (fun jz => zI (nw jz)))), (qr, .inl (dA 3, 2640, .inl (fun jz => zI (er jz))))] (fun _ : Unit => some (.int (zB (true)))) (fun _ : Unit => True) (fun _ : Unit => [(a, .inr (9, [v0, v1, v2, v3, v4, v5, v6, v7, v8, v9, v10, v11, v12, v13, v14, v15, v16, .int (zI ((w : Nat) : Int)), .int (zI ((le : Nat) : Int)), .int (zB (ra)), .int (zB (rl)), .ref (qn), v22, v23, v24, v25, v26, .ref (qr), .int (zI ((mkE es un : Nat) : Int)), .int (zI ((mkU un : Nat) : Int)), .ref (qh), .ref (qi), .int (zB (kn)), v33, v34, v35, v36, v37, v38, v39, v40, v41, v42, v43, v44])), (qn, .inl (dA 3, 66, .inl (fun jz => zI ((va_up nw 64 ((st ^^^ 2 ^ k : Nat) : Int)) jz)))), (qr, .inl (dA 3, 2640, .inl (fun jz => zI ((cpN er (fun i => mkA es un + i) nw (fun i => i) 66) jz))))]) := by
  refine zG.of (by decide +kernel) rfl ?_
  intro pp ee ss mm args below meth cd Q A C hr hlk hQ hA hin H locs hP hD hS ls hl
  have hx := C.1.1
  have hb := C.1.2.1
  have hl : lv_has ls 2 [(0, .ref (a)), (1, .int (zI ((k : Nat) : Int)))] := hl
  refine lv_aload_n hx hb dX9_turn_0 rfl (lv_at hl 0 rfl) ?_
  refine lv_iload_n hx hb dX9_turn_1 rfl (lv_at hl 1 rfl) ?_
  refine z_cV (n := 1) (As := [.int (zI ((k : Nat) : Int))]) (rest := []) C hP (k_X9_isSite l D dA (a) (v0) (v1) (v2) (v3) (v4) (v5) (v6) (v7) (v8) (v9) (v10) (v11) (v12) (v13) (v14) (v15) (v16) (v22) (v23) (v24) (v25) (v26) (.ref (qr)) (.int (zI ((es : Nat) : Int))) (.int (zI ((un : Nat) : Int))) (.ref (qh)) (.ref (qi)) (.int (zB (kn))) (v33) (v34) (v35) (v36) (v37) (v38) (v39) (v40) (v41) (v42) (v43) (v44) (w) (le) (ra) (rl) (qn) (((k : Nat) : Int)) (by first | with_reducible assumption | omega | with_reducible rfl) (by first | with_reducible assumption | omega | with_reducible rfl)) (lw_V q2124 q2126 qs81 q124 q2127) (by decide +kernel) rfl ⟨Nat.le_of_ble_eq_true rfl, Nat.le_of_ble_eq_true rfl⟩ hl.1 (hP.sub [0] rfl) 0 rfl rfl rfl (Nat.le_of_ble_eq_true rfl) dX9_turn_2 (Nat.zero_le _) (Nat.zero_le _) ?_
  refine z_if_eqB (tgt := 20) C dX9_turn_5 (by decide) (fun c_5 => ?_) (fun c_5 => ?_)
  · have c_5 := of_decide_eq_false c_5; exact absurd c_5 (by omega)
  · have c_5 := of_decide_eq_true c_5
    have b9 := bo (48 + k)
    refine lv_aload_n hx hb dX9_turn_8 rfl (lv_at hl 0 rfl) ?_
    refine z_get C hP 0 rfl rfl in_X9 21 (by decide) q1905 rfl dX9_turn_9 ?_
    refine z_bipush C dX9_turn_12 rfl ?_
    refine lv_iload_n hx hb dX9_turn_14 rfl (lv_at hl 1 rfl) ?_
    refine z_iaddN C (48) (k) rfl rfl dX9_turn_15 ?_
    refine z_iald C hP 1 rfl ((48 + k)) rfl (by omega) (by decide) dX9_turn_16 ?_
    refine z_if_le (tgt := 22) C ⟨by omega, by omega⟩ dX9_turn_17 (by decide) (fun c_17 => ?_) (fun c_17 => ?_)
    · refine lv_aload_n hx hb dX9_turn_22 rfl (lv_at hl 0 rfl) ?_
      refine z_gV (n := 0) (As := []) (rest := []) (wc := [(a, .inr (9, [v0, v1, v2, v3, v4, v5, v6, v7, v8, v9, v10, v11, v12, v13, v14, v15, v16, .int (zI ((w : Nat) : Int)), .int (zI ((le : Nat) : Int)), .int (zB (ra)), .int (zB (rl)), .ref (qn), v22, v23, v24, v25, v26, .ref (qr), .int (zI ((es : Nat) : Int)), .int (zI ((un : Nat) : Int)), .ref (qh), .ref (qi), .int (zB (kn)), v33, v34, v35, v36, v37, v38, v39, v40, v41, v42, v43, v44])), (qn, .inl (dA 3, 66, .inl (fun jz => zI (nw jz)))), (qr, .inl (dA 3, 2640, .inl (fun jz => zI (er jz))))]) (wr := []) C hP hD hS hA [0, 1, 2] [] rfl rfl (by decide) (by decide) (by decide) (k_X9_marksU l D dA (a) (v0) (v1) (v2) (v3) (v4) (v5) (v6) (v7) (v8) (v9) (v10) (v11) (v12) (v13) (v14) (v15) (v16) (v22) (v23) (v24) (v25) (v26) (v33) (v34) (v35) (v36) (v37) (v38) (v39) (v40) (v41) (v42) (v43) (v44) (w) (le) (es) (un) (qn) (qr) (qh) (qi) (ra) (rl) (kn) (nw) (er) (by first | with_reducible assumption | omega | with_reducible rfl) (by first | with_reducible assumption | omega | with_reducible rfl)) (lw_V q2135 q2137 qs83 q124 q2138) (by decide +kernel) rfl ⟨Nat.le_of_ble_eq_true rfl, Nat.le_of_ble_eq_true rfl⟩ hl.1 0 rfl rfl rfl (Nat.le_of_ble_eq_true rfl) dX9_turn_23 (by decide) (by decide) (fun _ H locs hp_23 hP hD hS _ => ?_)
      have hP := hP.sub (ws' := [(a, .inr (9, [v0, v1, v2, v3, v4, v5, v6, v7, v8, v9, v10, v11, v12, v13, v14, v15, v16, .int (zI ((w : Nat) : Int)), .int (zI ((le : Nat) : Int)), .int (zB (ra)), .int (zB (rl)), .ref (qn), v22, v23, v24, v25, v26, .ref (qr), .int (zI ((mkE es un : Nat) : Int)), .int (zI ((mkU un : Nat) : Int)), .ref (qh), .ref (qi), .int (zB (kn)), v33, v34, v35, v36, v37, v38, v39, v40, v41, v42, v43, v44])), (qn, .inl (dA 3, 66, .inl (fun jz => zI (nw jz)))), (qr, .inl (dA 3, 2640, .inl (fun jz => zI ((cpN er (fun i => mkA es un + i) nw (fun i => i) 66) jz))))]) [0, 1, 2] rfl
      have hD := hD.sub (ws' := [(a, .inr (9, [v0, v1, v2, v3, v4, v5, v6, v7, v8, v9, v10, v11, v12, v13, v14, v15, v16, .int (zI ((w : Nat) : Int)), .int (zI ((le : Nat) : Int)), .int (zB (ra)), .int (zB (rl)), .ref (qn), v22, v23, v24, v25, v26, .ref (qr), .int (zI ((mkE es un : Nat) : Int)), .int (zI ((mkU un : Nat) : Int)), .ref (qh), .ref (qi), .int (zB (kn)), v33, v34, v35, v36, v37, v38, v39, v40, v41, v42, v43, v44])), (qn, .inl (dA 3, 66, .inl (fun jz => zI (nw jz)))), (qr, .inl (dA 3, 2640, .inl (fun jz => zI ((cpN er (fun i => mkA es un + i) nw (fun i => i) 66) jz))))]) [0, 1, 2] (by decide) rfl
      refine W.widen (k := 0) (n := 0) (Nat.le_of_ble_eq_true rfl) (Nat.le_of_ble_eq_true rfl) ?_
      refine lv_aload_n hx hb dX9_turn_26 rfl (lv_at hl 0 rfl) ?_
      refine z_get C hP 0 rfl rfl in_X9 21 (by decide) q1905 rfl dX9_turn_27 ?_
      refine z_bipush C dX9_turn_30 rfl ?_
      refine lv_dup2_11 hx hb dX9_turn_32 rfl rfl ?_
      refine z_iald C hP 1 rfl (64) rfl (by omega) (by decide) dX9_turn_33 ?_
      rw [h64]
      refine z_iconst C dX9_turn_34 ?_
      refine lv_iload_n hx hb dX9_turn_35 rfl (lv_at hl 1 rfl) ?_
      refine z_ishl1 C (k) rfl rfl (by omega) dX9_turn_36 ?_
      refine z_ixor C (st) ((2 ^ k)) rfl rfl dX9_turn_37 ?_
      refine z_iast C hP hD hS 1 rfl (64) rfl (by omega) (by decide) (v := (((st ^^^ (2 ^ k)) : Nat) : Int)) (ws' := [(a, .inr (9, [v0, v1, v2, v3, v4, v5, v6, v7, v8, v9, v10, v11, v12, v13, v14, v15, v16, .int (zI ((w : Nat) : Int)), .int (zI ((le : Nat) : Int)), .int (zB (ra)), .int (zB (rl)), .ref (qn), v22, v23, v24, v25, v26, .ref (qr), .int (zI ((mkE es un : Nat) : Int)), .int (zI ((mkU un : Nat) : Int)), .ref (qh), .ref (qi), .int (zB (kn)), v33, v34, v35, v36, v37, v38, v39, v40, v41, v42, v43, v44])), (qn, .inl (dA 3, 66, .inl (fun jz => zI ((va_up nw 64 (((st ^^^ (2 ^ k)) : Nat) : Int)) jz)))), (qr, .inl (dA 3, 2640, .inl (fun jz => zI ((cpN er (fun i => mkA es un + i) nw (fun i => i) 66) jz))))]) rfl dX9_turn_38 (fun H locs hP hD hS => ?_)
      refine z_iconst C dX9_turn_39 ?_
      exact z_zretG (a := true) C hlk hr hQ () rfl trivial (hP.sub [0, 1, 2] rfl) (hD.sub [0, 1, 2] (by decide) rfl) hS (Nat.le_of_ble_eq_true rfl) (Nat.le_of_ble_eq_true rfl) dX9_turn_40
    · exact absurd c_17 (by omega)
set_option maxHeartbeats 600000 in
set_option maxRecDepth 100000 in
theorem k_X9_turn_no (l : Launch) (D : va_G) (dA : Nat → ClassId) (a : Nat) (v0 v1 v2 v3 v4 v5 v6 v7 v8 v9 v10 v11 v12 v13 v14 v15 v16 v22 v23 v24 v25 v26 v33 v34 v35 v36 v37 v38 v39 v40 v41 v42 v43 v44 : Value) (w le es un qn qr qh qi : Nat) (ra rl kn : Bool) (nw : Nat → Int) (k : Int) (hwl : w * le ≤ 16) (bo : ∀ j, -1000000 ≤ nw j ∧ nw j ≤ 1000000) (hz : zR k) (hno : ¬ (0 ≤ k ∧ k < ((w * le : Nat) : Int)) ∨ 0 < nw (48 + k.toNat)) : zM l yX9_turn cX9_turn 2 (some .boolean) (zRm 2 43) D dA [.ref (a), .int (zI (k))] [(a, .inr (9, [v0, v1, v2, v3, v4, v5, v6, v7, v8, v9, v10, v11, v12, v13, v14, v15, v16, .int (zI ((w : Nat) : Int)), .int (zI ((le : Nat) : Int)), .int (zB (ra)), .int (zB (rl)), .ref (qn), v22, v23, v24, v25, v26, .ref (qr), .int (zI ((es : Nat) : Int)), .int (zI ((un : Nat) : Int)), .ref (qh), .ref (qi), .int (zB (kn)), v33, v34, v35, v36, v37, v38, v39, v40, v41, v42, v43, v44])), (qn, .inl (dA 3, 66, .inl (fun jz => zI (nw jz))))] (some (.int (zB (false)))) := by
  refine zM.of (by decide +kernel) rfl ?_
  intro pp ee ss mm args below meth cd Q C hr hlk hQ hP ls hl
  have hx := C.1.1
  have hb := C.1.2.1
  have hl : lv_has ls 2 [(0, .ref (a)), (1, .int (zI (k)))] := hl
  refine lv_aload_n hx hb dX9_turn_0 rfl (lv_at hl 0 rfl) ?_
  refine lv_iload_n hx hb dX9_turn_1 rfl (lv_at hl 1 rfl) ?_
  refine z_cV (n := 1) (As := [.int (zI (k))]) (rest := []) C hP (k_X9_isSite l D dA (a) (v0) (v1) (v2) (v3) (v4) (v5) (v6) (v7) (v8) (v9) (v10) (v11) (v12) (v13) (v14) (v15) (v16) (v22) (v23) (v24) (v25) (v26) (.ref (qr)) (.int (zI ((es : Nat) : Int))) (.int (zI ((un : Nat) : Int))) (.ref (qh)) (.ref (qi)) (.int (zB (kn))) (v33) (v34) (v35) (v36) (v37) (v38) (v39) (v40) (v41) (v42) (v43) (v44) (w) (le) (ra) (rl) (qn) ((k)) (by first | with_reducible assumption | omega | with_reducible rfl) (by first | with_reducible assumption | omega | with_reducible rfl)) (lw_V q2124 q2126 qs81 q124 q2127) (by decide +kernel) rfl ⟨Nat.le_of_ble_eq_true rfl, Nat.le_of_ble_eq_true rfl⟩ hl.1 (hP.sub [0] rfl) 0 rfl rfl rfl (Nat.le_of_ble_eq_true rfl) dX9_turn_2 (Nat.zero_le _) (Nat.zero_le _) ?_
  refine z_if_eqB (tgt := 20) C dX9_turn_5 (by decide) (fun c_5 => ?_) (fun c_5 => ?_)
  · have c_5 := of_decide_eq_false c_5
    refine z_iconst C dX9_turn_20 ?_
    exact z_zret0 C hlk hr hQ rfl dX9_turn_21
  · have c_5 := of_decide_eq_true c_5
    obtain ⟨kq, rfl⟩ : ∃ q : Nat, k = (q : Int) := ⟨k.toNat, by omega⟩
    have b9 := bo (48 + kq)
    rw [Int.toNat_natCast] at hno
    refine lv_aload_n hx hb dX9_turn_8 rfl (lv_at hl 0 rfl) ?_
    refine z_get C hP 0 rfl rfl in_X9 21 (by decide) q1905 rfl dX9_turn_9 ?_
    refine z_bipush C dX9_turn_12 rfl ?_
    refine lv_iload_n hx hb dX9_turn_14 rfl (lv_at hl 1 rfl) ?_
    refine z_iaddN C (48) (kq) rfl rfl dX9_turn_15 ?_
    refine z_iald C hP 1 rfl ((48 + kq)) rfl (by omega) (by decide) dX9_turn_16 ?_
    refine z_if_le (tgt := 22) C ⟨by omega, by omega⟩ dX9_turn_17 (by decide) (fun c_17 => ?_) (fun c_17 => ?_)
    · exact absurd hno (by omega)
    · refine z_iconst C dX9_turn_20 ?_
      exact z_zret0 C hlk hr hQ rfl dX9_turn_21
set_option maxHeartbeats 600000 in
set_option maxRecDepth 100000 in
theorem k_X9_pull (l : Launch) (D : va_G) (dA : Nat → ClassId) (a : Nat) (v0 v1 v2 v3 v4 v5 v6 v7 v8 v9 v10 v11 v12 v13 v14 v15 v16 v22 v23 v24 v25 v26 v33 v34 v35 v36 v37 v38 v39 v40 v41 v42 v43 v44 : Value) (w le es un qn qr qh qi : Nat) (ra rl kn : Bool) (nw er : Nat → Int) (k : Nat) (j : Int) (hwl : w * le ≤ 16) (hes : es < 40) (hun : un ≤ 40) (hk : k < w * le) (bo : ∀ j, -1000000 ≤ nw j ∧ nw j ≤ 1000000) (hj : -3 ≤ j ∧ j ≤ 3) (hp : nw (32 + k) ≠ j) : zG (S := Unit) l yX9_pull cX9_pull 3 (some .boolean) (zRmW 2 43 0 0) D dA [.ref (a), .int (zI ((k : Nat) : Int)), .int (zI (j))] [(a, .inr (9, [v0, v1, v2, v3, v4, v5, v6, v7, v8, v9, v10, v11, v12, v13, v14, v15, v16, .int (zI ((w : Nat) : Int)), .int (zI ((le : Nat) : Int)), .int (zB (ra)), .int (zB (rl)), .ref (qn), v22, v23, v24, v25, v26, .ref (qr), .int (zI ((es : Nat) : Int)), .int (zI ((un : Nat) : Int)), .ref (qh), .ref (qi), .int (zB (kn)), v33, v34, v35, v36, v37, v38, v39, v40, v41, v42, v43, v44])), (qn, .inl (dA 3, 66, .inl (fun jz => zI (nw jz)))), (qr, .inl (dA 3, 2640, .inl (fun jz => zI (er jz))))] (fun _ : Unit => some (.int (zB (true)))) (fun _ : Unit => True) (fun _ : Unit => [(a, .inr (9, [v0, v1, v2, v3, v4, v5, v6, v7, v8, v9, v10, v11, v12, v13, v14, v15, v16, .int (zI ((w : Nat) : Int)), .int (zI ((le : Nat) : Int)), .int (zB (ra)), .int (zB (rl)), .ref (qn), v22, v23, v24, v25, v26, .ref (qr), .int (zI ((mkE es un : Nat) : Int)), .int (zI ((mkU un : Nat) : Int)), .ref (qh), .ref (qi), .int (zB (false)), v33, v34, v35, v36, v37, v38, v39, v40, v41, v42, v43, v44])), (qn, .inl (dA 3, 66, .inl (fun jz => zI ((va_up nw (32 + k) j) jz)))), (qr, .inl (dA 3, 2640, .inl (fun jz => zI ((cpN er (fun i => mkA es un + i) nw (fun i => i) 66) jz))))]) := by
  refine zG.of (by decide +kernel) rfl ?_
  intro pp ee ss mm args below meth cd Q A C hr hlk hQ hA hin H locs hP hD hS ls hl
  have hx := C.1.1
  have hb := C.1.2.1
  have hl : lv_has ls 3 [(0, .ref (a)), (1, .int (zI ((k : Nat) : Int))), (2, .int (zI (j)))] := hl
  refine lv_aload_n hx hb dX9_pull_0 rfl (lv_at hl 0 rfl) ?_
  refine lv_iload_n hx hb dX9_pull_1 rfl (lv_at hl 1 rfl) ?_
  refine z_cV (n := 1) (As := [.int (zI ((k : Nat) : Int))]) (rest := []) C hP (k_X9_isSite l D dA (a) (v0) (v1) (v2) (v3) (v4) (v5) (v6) (v7) (v8) (v9) (v10) (v11) (v12) (v13) (v14) (v15) (v16) (v22) (v23) (v24) (v25) (v26) (.ref (qr)) (.int (zI ((es : Nat) : Int))) (.int (zI ((un : Nat) : Int))) (.ref (qh)) (.ref (qi)) (.int (zB (kn))) (v33) (v34) (v35) (v36) (v37) (v38) (v39) (v40) (v41) (v42) (v43) (v44) (w) (le) (ra) (rl) (qn) (((k : Nat) : Int)) (by first | with_reducible assumption | omega | with_reducible rfl) (by first | with_reducible assumption | omega | with_reducible rfl)) (lw_V q2124 q2126 qs81 q124 q2127) (by decide +kernel) rfl ⟨Nat.le_of_ble_eq_true rfl, Nat.le_of_ble_eq_true rfl⟩ hl.1 (hP.sub [0] rfl) 0 rfl rfl rfl (Nat.le_of_ble_eq_true rfl) dX9_pull_2 (Nat.zero_le _) (Nat.zero_le _) ?_
  refine z_if_eqB (tgt := 31) C dX9_pull_5 (by decide) (fun c_5 => ?_) (fun c_5 => ?_)
  · have c_5 := of_decide_eq_false c_5; exact absurd c_5 (by omega)
  · have c_5 := of_decide_eq_true c_5
    refine lv_iload_n hx hb dX9_pull_8 rfl (lv_at hl 2 rfl) ?_
    refine z_bipush C dX9_pull_9 rfl ?_
    refine z_iconst C dX9_pull_11 ?_
    refine z_cS (n := 3) (As := [.int (zI (j)), .int (zI (-3)), .int (zI 3)]) (rest := []) C (k_X9_in l D dA ((j)) ((-3)) (3) (by first | with_reducible assumption | omega | with_reducible rfl) (by first | with_reducible assumption | omega | with_reducible rfl) (by first | with_reducible assumption | omega | with_reducible rfl)) (lw_S q2090 q2091 q124 q2092) (by decide +kernel) rfl ⟨Nat.le_of_ble_eq_true rfl, Nat.le_of_ble_eq_true rfl⟩ hl.1 (hP.sub [] rfl) rfl (Nat.le_of_ble_eq_true rfl) dX9_pull_12 (Nat.zero_le _) (Nat.zero_le _) ?_
    refine z_if_eqB (tgt := 31) C dX9_pull_15 (by decide) (fun c_15 => ?_) (fun c_15 => ?_)
    · have c_15 := of_decide_eq_false c_15; exact absurd c_15 (by omega)
    · have c_15 := of_decide_eq_true c_15
      have b9 := bo (32 + k)
      refine lv_aload_n hx hb dX9_pull_18 rfl (lv_at hl 0 rfl) ?_
      refine z_get C hP 0 rfl rfl in_X9 21 (by decide) q1905 rfl dX9_pull_19 ?_
      refine z_bipush C dX9_pull_22 rfl ?_
      refine lv_iload_n hx hb dX9_pull_24 rfl (lv_at hl 1 rfl) ?_
      refine z_iaddN C (32) (k) rfl rfl dX9_pull_25 ?_
      refine z_iald C hP 1 rfl ((32 + k)) rfl (by omega) (by decide) dX9_pull_26 ?_
      refine lv_iload_n hx hb dX9_pull_27 rfl (lv_at hl 2 rfl) ?_
      refine z_icmp_ne (tgt := 33) C ⟨by omega, by omega⟩ ⟨by omega, by omega⟩ dX9_pull_28 (by decide) (fun c_28 => ?_) (fun c_28 => ?_)
      · refine lv_aload_n hx hb dX9_pull_33 rfl (lv_at hl 0 rfl) ?_
        refine z_gV (n := 0) (As := []) (rest := []) (wc := [(a, .inr (9, [v0, v1, v2, v3, v4, v5, v6, v7, v8, v9, v10, v11, v12, v13, v14, v15, v16, .int (zI ((w : Nat) : Int)), .int (zI ((le : Nat) : Int)), .int (zB (ra)), .int (zB (rl)), .ref (qn), v22, v23, v24, v25, v26, .ref (qr), .int (zI ((es : Nat) : Int)), .int (zI ((un : Nat) : Int)), .ref (qh), .ref (qi), .int (zB (kn)), v33, v34, v35, v36, v37, v38, v39, v40, v41, v42, v43, v44])), (qn, .inl (dA 3, 66, .inl (fun jz => zI (nw jz)))), (qr, .inl (dA 3, 2640, .inl (fun jz => zI (er jz))))]) (wr := []) C hP hD hS hA [0, 1, 2] [] rfl rfl (by decide) (by decide) (by decide) (k_X9_marksU l D dA (a) (v0) (v1) (v2) (v3) (v4) (v5) (v6) (v7) (v8) (v9) (v10) (v11) (v12) (v13) (v14) (v15) (v16) (v22) (v23) (v24) (v25) (v26) (v33) (v34) (v35) (v36) (v37) (v38) (v39) (v40) (v41) (v42) (v43) (v44) (w) (le) (es) (un) (qn) (qr) (qh) (qi) (ra) (rl) (kn) (nw) (er) (by first | with_reducible assumption | omega | with_reducible rfl) (by first | with_reducible assumption | omega | with_reducible rfl)) (lw_V q2135 q2137 qs83 q124 q2138) (by decide +kernel) rfl ⟨Nat.le_of_ble_eq_true rfl, Nat.le_of_ble_eq_true rfl⟩ hl.1 0 rfl rfl rfl (Nat.le_of_ble_eq_true rfl) dX9_pull_34 (by decide) (by decide) (fun _ H locs hp_34 hP hD hS _ => ?_)
        have hP := hP.sub (ws' := [(a, .inr (9, [v0, v1, v2, v3, v4, v5, v6, v7, v8, v9, v10, v11, v12, v13, v14, v15, v16, .int (zI ((w : Nat) : Int)), .int (zI ((le : Nat) : Int)), .int (zB (ra)), .int (zB (rl)), .ref (qn), v22, v23, v24, v25, v26, .ref (qr), .int (zI ((mkE es un : Nat) : Int)), .int (zI ((mkU un : Nat) : Int)), .ref (qh), .ref (qi), .int (zB (kn)), v33, v34, v35, v36, v37, v38, v39, v40, v41, v42, v43, v44])), (qn, .inl (dA 3, 66, .inl (fun jz => zI (nw jz)))), (qr, .inl (dA 3, 2640, .inl (fun jz => zI ((cpN er (fun i => mkA es un + i) nw (fun i => i) 66) jz))))]) [0, 1, 2] rfl
        have hD := hD.sub (ws' := [(a, .inr (9, [v0, v1, v2, v3, v4, v5, v6, v7, v8, v9, v10, v11, v12, v13, v14, v15, v16, .int (zI ((w : Nat) : Int)), .int (zI ((le : Nat) : Int)), .int (zB (ra)), .int (zB (rl)), .ref (qn), v22, v23, v24, v25, v26, .ref (qr), .int (zI ((mkE es un : Nat) : Int)), .int (zI ((mkU un : Nat) : Int)), .ref (qh), .ref (qi), .int (zB (kn)), v33, v34, v35, v36, v37, v38, v39, v40, v41, v42, v43, v44])), (qn, .inl (dA 3, 66, .inl (fun jz => zI (nw jz)))), (qr, .inl (dA 3, 2640, .inl (fun jz => zI ((cpN er (fun i => mkA es un + i) nw (fun i => i) 66) jz))))]) [0, 1, 2] (by decide) rfl
        refine W.widen (k := 0) (n := 0) (Nat.le_of_ble_eq_true rfl) (Nat.le_of_ble_eq_true rfl) ?_
        refine lv_aload_n hx hb dX9_pull_37 rfl (lv_at hl 0 rfl) ?_
        refine z_get C hP 0 rfl rfl in_X9 21 (by decide) q1905 rfl dX9_pull_38 ?_
        refine z_bipush C dX9_pull_41 rfl ?_
        refine lv_iload_n hx hb dX9_pull_43 rfl (lv_at hl 1 rfl) ?_
        refine z_iaddN C (32) (k) rfl rfl dX9_pull_44 ?_
        refine lv_iload_n hx hb dX9_pull_45 rfl (lv_at hl 2 rfl) ?_
        refine z_iast C hP hD hS 1 rfl ((32 + k)) rfl (by omega) (by decide) (v := (j)) (ws' := [(a, .inr (9, [v0, v1, v2, v3, v4, v5, v6, v7, v8, v9, v10, v11, v12, v13, v14, v15, v16, .int (zI ((w : Nat) : Int)), .int (zI ((le : Nat) : Int)), .int (zB (ra)), .int (zB (rl)), .ref (qn), v22, v23, v24, v25, v26, .ref (qr), .int (zI ((mkE es un : Nat) : Int)), .int (zI ((mkU un : Nat) : Int)), .ref (qh), .ref (qi), .int (zB (kn)), v33, v34, v35, v36, v37, v38, v39, v40, v41, v42, v43, v44])), (qn, .inl (dA 3, 66, .inl (fun jz => zI ((va_up nw (32 + k) (j)) jz)))), (qr, .inl (dA 3, 2640, .inl (fun jz => zI ((cpN er (fun i => mkA es un + i) nw (fun i => i) 66) jz))))]) rfl dX9_pull_46 (fun H locs hP hD hS => ?_)
        refine lv_aload_n hx hb dX9_pull_47 rfl (lv_at hl 0 rfl) ?_
        refine z_iconst C dX9_pull_48 ?_
        refine z_put C hP hD hS 0 rfl rfl in_X9 tyX9_ok nmX9 32 (by decide) q1916 rfl (v := .int (zB (false))) (zB_nar _) rfl (Nat.le_of_ble_eq_true rfl) (ws' := [(a, .inr (9, [v0, v1, v2, v3, v4, v5, v6, v7, v8, v9, v10, v11, v12, v13, v14, v15, v16, .int (zI ((w : Nat) : Int)), .int (zI ((le : Nat) : Int)), .int (zB (ra)), .int (zB (rl)), .ref (qn), v22, v23, v24, v25, v26, .ref (qr), .int (zI ((mkE es un : Nat) : Int)), .int (zI ((mkU un : Nat) : Int)), .ref (qh), .ref (qi), .int (zB (false)), v33, v34, v35, v36, v37, v38, v39, v40, v41, v42, v43, v44])), (qn, .inl (dA 3, 66, .inl (fun jz => zI ((va_up nw (32 + k) (j)) jz)))), (qr, .inl (dA 3, 2640, .inl (fun jz => zI ((cpN er (fun i => mkA es un + i) nw (fun i => i) 66) jz))))]) rfl dX9_pull_49 (fun H locs hP hD hS => ?_)
        refine z_iconst C dX9_pull_52 ?_
        exact z_zretG (a := true) C hlk hr hQ () rfl trivial (hP.sub [0, 1, 2] rfl) (hD.sub [0, 1, 2] (by decide) rfl) hS (Nat.le_of_ble_eq_true rfl) (Nat.le_of_ble_eq_true rfl) dX9_pull_53
      · exact absurd c_28 hp
set_option maxHeartbeats 600000 in
set_option maxRecDepth 100000 in
theorem k_X9_pull_no (l : Launch) (D : va_G) (dA : Nat → ClassId) (a : Nat) (v0 v1 v2 v3 v4 v5 v6 v7 v8 v9 v10 v11 v12 v13 v14 v15 v16 v22 v23 v24 v25 v26 v33 v34 v35 v36 v37 v38 v39 v40 v41 v42 v43 v44 : Value) (w le es un qn qr qh qi : Nat) (ra rl kn : Bool) (nw : Nat → Int) (k j : Int) (hwl : w * le ≤ 16) (bo : ∀ j, -1000000 ≤ nw j ∧ nw j ≤ 1000000) (hz : zR k) (hzj : zR j) (hno : ¬ (0 ≤ k ∧ k < ((w * le : Nat) : Int)) ∨ ¬ (-3 ≤ j ∧ j ≤ 3) ∨ nw (32 + k.toNat) = j) : zM l yX9_pull cX9_pull 3 (some .boolean) (zRm 2 43) D dA [.ref (a), .int (zI (k)), .int (zI (j))] [(a, .inr (9, [v0, v1, v2, v3, v4, v5, v6, v7, v8, v9, v10, v11, v12, v13, v14, v15, v16, .int (zI ((w : Nat) : Int)), .int (zI ((le : Nat) : Int)), .int (zB (ra)), .int (zB (rl)), .ref (qn), v22, v23, v24, v25, v26, .ref (qr), .int (zI ((es : Nat) : Int)), .int (zI ((un : Nat) : Int)), .ref (qh), .ref (qi), .int (zB (kn)), v33, v34, v35, v36, v37, v38, v39, v40, v41, v42, v43, v44])), (qn, .inl (dA 3, 66, .inl (fun jz => zI (nw jz))))] (some (.int (zB (false)))) := by
  refine zM.of (by decide +kernel) rfl ?_
  intro pp ee ss mm args below meth cd Q C hr hlk hQ hP ls hl
  have hx := C.1.1
  have hb := C.1.2.1
  have hl : lv_has ls 3 [(0, .ref (a)), (1, .int (zI (k))), (2, .int (zI (j)))] := hl
  refine lv_aload_n hx hb dX9_pull_0 rfl (lv_at hl 0 rfl) ?_
  refine lv_iload_n hx hb dX9_pull_1 rfl (lv_at hl 1 rfl) ?_
  refine z_cV (n := 1) (As := [.int (zI (k))]) (rest := []) C hP (k_X9_isSite l D dA (a) (v0) (v1) (v2) (v3) (v4) (v5) (v6) (v7) (v8) (v9) (v10) (v11) (v12) (v13) (v14) (v15) (v16) (v22) (v23) (v24) (v25) (v26) (.ref (qr)) (.int (zI ((es : Nat) : Int))) (.int (zI ((un : Nat) : Int))) (.ref (qh)) (.ref (qi)) (.int (zB (kn))) (v33) (v34) (v35) (v36) (v37) (v38) (v39) (v40) (v41) (v42) (v43) (v44) (w) (le) (ra) (rl) (qn) ((k)) (by first | with_reducible assumption | omega | with_reducible rfl) (by first | with_reducible assumption | omega | with_reducible rfl)) (lw_V q2124 q2126 qs81 q124 q2127) (by decide +kernel) rfl ⟨Nat.le_of_ble_eq_true rfl, Nat.le_of_ble_eq_true rfl⟩ hl.1 (hP.sub [0] rfl) 0 rfl rfl rfl (Nat.le_of_ble_eq_true rfl) dX9_pull_2 (Nat.zero_le _) (Nat.zero_le _) ?_
  refine z_if_eqB (tgt := 31) C dX9_pull_5 (by decide) (fun c_5 => ?_) (fun c_5 => ?_)
  · have c_5 := of_decide_eq_false c_5
    refine z_iconst C dX9_pull_31 ?_
    exact z_zret0 C hlk hr hQ rfl dX9_pull_32
  · have c_5 := of_decide_eq_true c_5
    refine lv_iload_n hx hb dX9_pull_8 rfl (lv_at hl 2 rfl) ?_
    refine z_bipush C dX9_pull_9 rfl ?_
    refine z_iconst C dX9_pull_11 ?_
    refine z_cS (n := 3) (As := [.int (zI (j)), .int (zI (-3)), .int (zI 3)]) (rest := []) C (k_X9_in l D dA ((j)) ((-3)) (3) (by first | with_reducible assumption | omega | with_reducible rfl) (by first | with_reducible assumption | omega | with_reducible rfl) (by first | with_reducible assumption | omega | with_reducible rfl)) (lw_S q2090 q2091 q124 q2092) (by decide +kernel) rfl ⟨Nat.le_of_ble_eq_true rfl, Nat.le_of_ble_eq_true rfl⟩ hl.1 (hP.sub [] rfl) rfl (Nat.le_of_ble_eq_true rfl) dX9_pull_12 (Nat.zero_le _) (Nat.zero_le _) ?_
    refine z_if_eqB (tgt := 31) C dX9_pull_15 (by decide) (fun c_15 => ?_) (fun c_15 => ?_)
    · have c_15 := of_decide_eq_false c_15
      refine z_iconst C dX9_pull_31 ?_
      exact z_zret0 C hlk hr hQ rfl dX9_pull_32
    · have c_15 := of_decide_eq_true c_15
      obtain ⟨kq, rfl⟩ : ∃ q : Nat, k = (q : Int) := ⟨k.toNat, by omega⟩
      have b9 := bo (32 + kq)
      rw [Int.toNat_natCast] at hno
      refine lv_aload_n hx hb dX9_pull_18 rfl (lv_at hl 0 rfl) ?_
      refine z_get C hP 0 rfl rfl in_X9 21 (by decide) q1905 rfl dX9_pull_19 ?_
      refine z_bipush C dX9_pull_22 rfl ?_
      refine lv_iload_n hx hb dX9_pull_24 rfl (lv_at hl 1 rfl) ?_
      refine z_iaddN C (32) (kq) rfl rfl dX9_pull_25 ?_
      refine z_iald C hP 1 rfl ((32 + kq)) rfl (by omega) (by decide) dX9_pull_26 ?_
      refine lv_iload_n hx hb dX9_pull_27 rfl (lv_at hl 2 rfl) ?_
      refine z_icmp_ne (tgt := 33) C ⟨by omega, by omega⟩ ⟨by omega, by omega⟩ dX9_pull_28 (by decide) (fun c_28 => ?_) (fun c_28 => ?_)
      · exact absurd hno (by omega)
      · refine z_iconst C dX9_pull_31 ?_
        exact z_zret0 C hlk hr hQ rfl dX9_pull_32
set_option maxHeartbeats 600000 in
set_option maxRecDepth 100000 in
theorem k_X9_pin0 (l : Launch) (D : va_G) (dA : Nat → ClassId) (a : Nat) (v0 v1 v2 v3 v4 v5 v6 v7 v8 v9 v10 v11 v12 v13 v14 v15 v16 v22 v23 v24 v25 v26 v33 v34 v35 v36 v37 v38 v39 v40 v41 v42 v43 v44 : Value) (w le es un qn qr qh qi : Nat) (ra rl kn : Bool) (nw er : Nat → Int) (k st : Nat) (hwl : w * le ≤ 16) (hes : es < 40) (hun : un ≤ 40) (hk : k < w * le) (bo : ∀ j, -1000000 ≤ nw j ∧ nw j ≤ 1000000) (hp : nw (48 + k) ≠ 0) (h64 : nw 64 = (st : Int)) (hst : st < 65536) : zG (S := Unit) l yX9_pin cX9_pin 3 (some .boolean) (zRmW 2 43 0 0) D dA [.ref (a), .int (zI ((k : Nat) : Int)), .int (zI 0)] [(a, .inr (9, [v0, v1, v2, v3, v4, v5, v6, v7, v8, v9, v10, v11, v12, v13, v14, v15, v16, .int (zI ((w : Nat) : Int)), .int (zI ((le : Nat) : Int)), .int (zB (ra)), .int (zB (rl)), .ref (qn), v22, v23, v24, v25, v26, .ref (qr), .int (zI ((es : Nat) : Int)), .int (zI ((un : Nat) : Int)), .ref (qh), .ref (qi), .int (zB (kn)), v33, v34, v35, v36, v37, v38, v39, v40, v41, v42, v43, v44])), (qn, .inl (dA 3, 66, .inl (fun jz => zI (nw jz)))), (qr, .inl (dA 3, 2640, .inl (fun jz => zI (er jz))))] (fun _ : Unit => some (.int (zB (true)))) (fun _ : Unit => True) (fun _ : Unit => [(a, .inr (9, [v0, v1, v2, v3, v4, v5, v6, v7, v8, v9, v10, v11, v12, v13, v14, v15, v16, .int (zI ((w : Nat) : Int)), .int (zI ((le : Nat) : Int)), .int (zB (ra)), .int (zB (rl)), .ref (qn), v22, v23, v24, v25, v26, .ref (qr), .int (zI ((mkE es un : Nat) : Int)), .int (zI ((mkU un : Nat) : Int)), .ref (qh), .ref (qi), .int (zB (false)), v33, v34, v35, v36, v37, v38, v39, v40, v41, v42, v43, v44])), (qn, .inl (dA 3, 66, .inl (fun jz => zI ((va_up nw (48 + k) 0) jz)))), (qr, .inl (dA 3, 2640, .inl (fun jz => zI ((cpN er (fun i => mkA es un + i) nw (fun i => i) 66) jz))))]) := by
  refine zG.of (by decide +kernel) rfl ?_
  intro pp ee ss mm args below meth cd Q A C hr hlk hQ hA hin H locs hP hD hS ls hl
  have hx := C.1.1
  have hb := C.1.2.1
  have hl : lv_has ls 3 [(0, .ref (a)), (1, .int (zI ((k : Nat) : Int))), (2, .int (zI 0))] := hl
  refine lv_aload_n hx hb dX9_pin_0 rfl (lv_at hl 0 rfl) ?_
  refine lv_iload_n hx hb dX9_pin_1 rfl (lv_at hl 1 rfl) ?_
  refine z_cV (n := 1) (As := [.int (zI ((k : Nat) : Int))]) (rest := []) C hP (k_X9_isSite l D dA (a) (v0) (v1) (v2) (v3) (v4) (v5) (v6) (v7) (v8) (v9) (v10) (v11) (v12) (v13) (v14) (v15) (v16) (v22) (v23) (v24) (v25) (v26) (.ref (qr)) (.int (zI ((es : Nat) : Int))) (.int (zI ((un : Nat) : Int))) (.ref (qh)) (.ref (qi)) (.int (zB (kn))) (v33) (v34) (v35) (v36) (v37) (v38) (v39) (v40) (v41) (v42) (v43) (v44) (w) (le) (ra) (rl) (qn) (((k : Nat) : Int)) (by first | with_reducible assumption | omega | with_reducible rfl) (by first | with_reducible assumption | omega | with_reducible rfl)) (lw_V q2124 q2126 qs81 q124 q2127) (by decide +kernel) rfl ⟨Nat.le_of_ble_eq_true rfl, Nat.le_of_ble_eq_true rfl⟩ hl.1 (hP.sub [0] rfl) 0 rfl rfl rfl (Nat.le_of_ble_eq_true rfl) dX9_pin_2 (Nat.zero_le _) (Nat.zero_le _) ?_
  refine z_if_eqB (tgt := 30) C dX9_pin_5 (by decide) (fun c_5 => ?_) (fun c_5 => ?_)
  · have c_5 := of_decide_eq_false c_5; exact absurd c_5 (by omega)
  · have c_5 := of_decide_eq_true c_5
    refine lv_iload_n hx hb dX9_pin_8 rfl (lv_at hl 2 rfl) ?_
    refine z_iconst C dX9_pin_9 ?_
    refine z_iconst C dX9_pin_10 ?_
    refine z_cS (n := 3) (As := [.int (zI 0), .int (zI 0), .int (zI 2)]) (rest := []) C (k_X9_in l D dA (0) (0) (2) (by first | with_reducible assumption | omega | with_reducible rfl) (by first | with_reducible assumption | omega | with_reducible rfl) (by first | with_reducible assumption | omega | with_reducible rfl)) (lw_S q2090 q2091 q124 q2092) (by decide +kernel) rfl ⟨Nat.le_of_ble_eq_true rfl, Nat.le_of_ble_eq_true rfl⟩ hl.1 (hP.sub [] rfl) rfl (Nat.le_of_ble_eq_true rfl) dX9_pin_11 (Nat.zero_le _) (Nat.zero_le _) ?_
    refine z_if_eqB (tgt := 30) C dX9_pin_14 (by decide) (fun c_14 => ?_) (fun c_14 => ?_)
    · have c_14 := of_decide_eq_false c_14; exact absurd c_14 (by decide)
    · have c_14 := of_decide_eq_true c_14
      have b9 := bo (48 + k)
      refine lv_aload_n hx hb dX9_pin_17 rfl (lv_at hl 0 rfl) ?_
      refine z_get C hP 0 rfl rfl in_X9 21 (by decide) q1905 rfl dX9_pin_18 ?_
      refine z_bipush C dX9_pin_21 rfl ?_
      refine lv_iload_n hx hb dX9_pin_23 rfl (lv_at hl 1 rfl) ?_
      refine z_iaddN C (48) (k) rfl rfl dX9_pin_24 ?_
      refine z_iald C hP 1 rfl ((48 + k)) rfl (by omega) (by decide) dX9_pin_25 ?_
      refine lv_iload_n hx hb dX9_pin_26 rfl (lv_at hl 2 rfl) ?_
      refine z_icmp_ne (tgt := 32) C ⟨by omega, by omega⟩ ⟨by decide, by decide⟩ dX9_pin_27 (by decide) (fun c_27 => ?_) (fun c_27 => ?_)
      · refine lv_aload_n hx hb dX9_pin_32 rfl (lv_at hl 0 rfl) ?_
        refine z_gV (n := 0) (As := []) (rest := []) (wc := [(a, .inr (9, [v0, v1, v2, v3, v4, v5, v6, v7, v8, v9, v10, v11, v12, v13, v14, v15, v16, .int (zI ((w : Nat) : Int)), .int (zI ((le : Nat) : Int)), .int (zB (ra)), .int (zB (rl)), .ref (qn), v22, v23, v24, v25, v26, .ref (qr), .int (zI ((es : Nat) : Int)), .int (zI ((un : Nat) : Int)), .ref (qh), .ref (qi), .int (zB (kn)), v33, v34, v35, v36, v37, v38, v39, v40, v41, v42, v43, v44])), (qn, .inl (dA 3, 66, .inl (fun jz => zI (nw jz)))), (qr, .inl (dA 3, 2640, .inl (fun jz => zI (er jz))))]) (wr := []) C hP hD hS hA [0, 1, 2] [] rfl rfl (by decide) (by decide) (by decide) (k_X9_marksU l D dA (a) (v0) (v1) (v2) (v3) (v4) (v5) (v6) (v7) (v8) (v9) (v10) (v11) (v12) (v13) (v14) (v15) (v16) (v22) (v23) (v24) (v25) (v26) (v33) (v34) (v35) (v36) (v37) (v38) (v39) (v40) (v41) (v42) (v43) (v44) (w) (le) (es) (un) (qn) (qr) (qh) (qi) (ra) (rl) (kn) (nw) (er) (by first | with_reducible assumption | omega | with_reducible rfl) (by first | with_reducible assumption | omega | with_reducible rfl)) (lw_V q2135 q2137 qs83 q124 q2138) (by decide +kernel) rfl ⟨Nat.le_of_ble_eq_true rfl, Nat.le_of_ble_eq_true rfl⟩ hl.1 0 rfl rfl rfl (Nat.le_of_ble_eq_true rfl) dX9_pin_33 (by decide) (by decide) (fun _ H locs hp_33 hP hD hS _ => ?_)
        have hP := hP.sub (ws' := [(a, .inr (9, [v0, v1, v2, v3, v4, v5, v6, v7, v8, v9, v10, v11, v12, v13, v14, v15, v16, .int (zI ((w : Nat) : Int)), .int (zI ((le : Nat) : Int)), .int (zB (ra)), .int (zB (rl)), .ref (qn), v22, v23, v24, v25, v26, .ref (qr), .int (zI ((mkE es un : Nat) : Int)), .int (zI ((mkU un : Nat) : Int)), .ref (qh), .ref (qi), .int (zB (kn)), v33, v34, v35, v36, v37, v38, v39, v40, v41, v42, v43, v44])), (qn, .inl (dA 3, 66, .inl (fun jz => zI (nw jz)))), (qr, .inl (dA 3, 2640, .inl (fun jz => zI ((cpN er (fun i => mkA es un + i) nw (fun i => i) 66) jz))))]) [0, 1, 2] rfl
        have hD := hD.sub (ws' := [(a, .inr (9, [v0, v1, v2, v3, v4, v5, v6, v7, v8, v9, v10, v11, v12, v13, v14, v15, v16, .int (zI ((w : Nat) : Int)), .int (zI ((le : Nat) : Int)), .int (zB (ra)), .int (zB (rl)), .ref (qn), v22, v23, v24, v25, v26, .ref (qr), .int (zI ((mkE es un : Nat) : Int)), .int (zI ((mkU un : Nat) : Int)), .ref (qh), .ref (qi), .int (zB (kn)), v33, v34, v35, v36, v37, v38, v39, v40, v41, v42, v43, v44])), (qn, .inl (dA 3, 66, .inl (fun jz => zI (nw jz)))), (qr, .inl (dA 3, 2640, .inl (fun jz => zI ((cpN er (fun i => mkA es un + i) nw (fun i => i) 66) jz))))]) [0, 1, 2] (by decide) rfl
        refine W.widen (k := 0) (n := 0) (Nat.le_of_ble_eq_true rfl) (Nat.le_of_ble_eq_true rfl) ?_
        refine lv_aload_n hx hb dX9_pin_36 rfl (lv_at hl 0 rfl) ?_
        refine z_get C hP 0 rfl rfl in_X9 21 (by decide) q1905 rfl dX9_pin_37 ?_
        refine z_bipush C dX9_pin_40 rfl ?_
        refine lv_iload_n hx hb dX9_pin_42 rfl (lv_at hl 1 rfl) ?_
        refine z_iaddN C (48) (k) rfl rfl dX9_pin_43 ?_
        refine lv_iload_n hx hb dX9_pin_44 rfl (lv_at hl 2 rfl) ?_
        refine z_iast C hP hD hS 1 rfl ((48 + k)) rfl (by omega) (by decide) (v := 0) (ws' := [(a, .inr (9, [v0, v1, v2, v3, v4, v5, v6, v7, v8, v9, v10, v11, v12, v13, v14, v15, v16, .int (zI ((w : Nat) : Int)), .int (zI ((le : Nat) : Int)), .int (zB (ra)), .int (zB (rl)), .ref (qn), v22, v23, v24, v25, v26, .ref (qr), .int (zI ((mkE es un : Nat) : Int)), .int (zI ((mkU un : Nat) : Int)), .ref (qh), .ref (qi), .int (zB (kn)), v33, v34, v35, v36, v37, v38, v39, v40, v41, v42, v43, v44])), (qn, .inl (dA 3, 66, .inl (fun jz => zI ((va_up nw (48 + k) 0) jz)))), (qr, .inl (dA 3, 2640, .inl (fun jz => zI ((cpN er (fun i => mkA es un + i) nw (fun i => i) 66) jz))))]) rfl dX9_pin_45 (fun H locs hP hD hS => ?_)
        refine lv_iload_n hx hb dX9_pin_46 rfl (lv_at hl 2 rfl) ?_
        refine z_iconst C dX9_pin_47 ?_
        refine z_icmp_ne (tgt := 64) C ⟨by decide, by decide⟩ ⟨by decide, by decide⟩ dX9_pin_48 (by decide) (fun _ => ?_) (fun c => absurd c (by decide))
        refine lv_iload_n hx hb dX9_pin_64 rfl (lv_at hl 2 rfl) ?_
        refine z_iconst C dX9_pin_65 ?_
        refine z_icmp_ne (tgt := 84) C ⟨by decide, by decide⟩ ⟨by decide, by decide⟩ dX9_pin_66 (by decide) (fun _ => ?_) (fun c => absurd c (by decide))
        refine lv_aload_n hx hb dX9_pin_84 rfl (lv_at hl 0 rfl) ?_
        refine z_iconst C dX9_pin_85 ?_
        refine z_put C hP hD hS 0 rfl rfl in_X9 tyX9_ok nmX9 32 (by decide) q1916 rfl (v := .int (zB (false))) (zB_nar _) rfl (Nat.le_of_ble_eq_true rfl) (ws' := [(a, .inr (9, [v0, v1, v2, v3, v4, v5, v6, v7, v8, v9, v10, v11, v12, v13, v14, v15, v16, .int (zI ((w : Nat) : Int)), .int (zI ((le : Nat) : Int)), .int (zB (ra)), .int (zB (rl)), .ref (qn), v22, v23, v24, v25, v26, .ref (qr), .int (zI ((mkE es un : Nat) : Int)), .int (zI ((mkU un : Nat) : Int)), .ref (qh), .ref (qi), .int (zB (false)), v33, v34, v35, v36, v37, v38, v39, v40, v41, v42, v43, v44])), (qn, .inl (dA 3, 66, .inl (fun jz => zI ((va_up nw (48 + k) 0) jz)))), (qr, .inl (dA 3, 2640, .inl (fun jz => zI ((cpN er (fun i => mkA es un + i) nw (fun i => i) 66) jz))))]) rfl dX9_pin_86 (fun H locs hP hD hS => ?_)
        refine z_iconst C dX9_pin_89 ?_
        exact z_zretG (a := true) C hlk hr hQ () rfl trivial (hP.sub [0, 1, 2] rfl) (hD.sub [0, 1, 2] (by decide) rfl) hS (Nat.le_of_ble_eq_true rfl) (Nat.le_of_ble_eq_true rfl) dX9_pin_90
      · exact absurd c_27 hp
set_option maxHeartbeats 600000 in
set_option maxRecDepth 100000 in
theorem k_X9_pin1 (l : Launch) (D : va_G) (dA : Nat → ClassId) (a : Nat) (v0 v1 v2 v3 v4 v5 v6 v7 v8 v9 v10 v11 v12 v13 v14 v15 v16 v22 v23 v24 v25 v26 v33 v34 v35 v36 v37 v38 v39 v40 v41 v42 v43 v44 : Value) (w le es un qn qr qh qi : Nat) (ra rl kn : Bool) (nw er : Nat → Int) (k st : Nat) (hwl : w * le ≤ 16) (hes : es < 40) (hun : un ≤ 40) (hk : k < w * le) (bo : ∀ j, -1000000 ≤ nw j ∧ nw j ≤ 1000000) (hp : nw (48 + k) ≠ 1) (h64 : nw 64 = (st : Int)) (hst : st < 65536) : zG (S := Unit) l yX9_pin cX9_pin 3 (some .boolean) (zRmW 2 43 0 0) D dA [.ref (a), .int (zI ((k : Nat) : Int)), .int (zI 1)] [(a, .inr (9, [v0, v1, v2, v3, v4, v5, v6, v7, v8, v9, v10, v11, v12, v13, v14, v15, v16, .int (zI ((w : Nat) : Int)), .int (zI ((le : Nat) : Int)), .int (zB (ra)), .int (zB (rl)), .ref (qn), v22, v23, v24, v25, v26, .ref (qr), .int (zI ((es : Nat) : Int)), .int (zI ((un : Nat) : Int)), .ref (qh), .ref (qi), .int (zB (kn)), v33, v34, v35, v36, v37, v38, v39, v40, v41, v42, v43, v44])), (qn, .inl (dA 3, 66, .inl (fun jz => zI (nw jz)))), (qr, .inl (dA 3, 2640, .inl (fun jz => zI (er jz))))] (fun _ : Unit => some (.int (zB (true)))) (fun _ : Unit => True) (fun _ : Unit => [(a, .inr (9, [v0, v1, v2, v3, v4, v5, v6, v7, v8, v9, v10, v11, v12, v13, v14, v15, v16, .int (zI ((w : Nat) : Int)), .int (zI ((le : Nat) : Int)), .int (zB (ra)), .int (zB (rl)), .ref (qn), v22, v23, v24, v25, v26, .ref (qr), .int (zI ((mkE es un : Nat) : Int)), .int (zI ((mkU un : Nat) : Int)), .ref (qh), .ref (qi), .int (zB (false)), v33, v34, v35, v36, v37, v38, v39, v40, v41, v42, v43, v44])), (qn, .inl (dA 3, 66, .inl (fun jz => zI ((va_up (va_up nw (48 + k) 1) 64 ((st ||| 2 ^ k : Nat) : Int)) jz)))), (qr, .inl (dA 3, 2640, .inl (fun jz => zI ((cpN er (fun i => mkA es un + i) nw (fun i => i) 66) jz))))]) := by
  refine zG.of (by decide +kernel) rfl ?_
  intro pp ee ss mm args below meth cd Q A C hr hlk hQ hA hin H locs hP hD hS ls hl
  have hx := C.1.1
  have hb := C.1.2.1
  have hl : lv_has ls 3 [(0, .ref (a)), (1, .int (zI ((k : Nat) : Int))), (2, .int (zI 1))] := hl
  refine lv_aload_n hx hb dX9_pin_0 rfl (lv_at hl 0 rfl) ?_
  refine lv_iload_n hx hb dX9_pin_1 rfl (lv_at hl 1 rfl) ?_
  refine z_cV (n := 1) (As := [.int (zI ((k : Nat) : Int))]) (rest := []) C hP (k_X9_isSite l D dA (a) (v0) (v1) (v2) (v3) (v4) (v5) (v6) (v7) (v8) (v9) (v10) (v11) (v12) (v13) (v14) (v15) (v16) (v22) (v23) (v24) (v25) (v26) (.ref (qr)) (.int (zI ((es : Nat) : Int))) (.int (zI ((un : Nat) : Int))) (.ref (qh)) (.ref (qi)) (.int (zB (kn))) (v33) (v34) (v35) (v36) (v37) (v38) (v39) (v40) (v41) (v42) (v43) (v44) (w) (le) (ra) (rl) (qn) (((k : Nat) : Int)) (by first | with_reducible assumption | omega | with_reducible rfl) (by first | with_reducible assumption | omega | with_reducible rfl)) (lw_V q2124 q2126 qs81 q124 q2127) (by decide +kernel) rfl ⟨Nat.le_of_ble_eq_true rfl, Nat.le_of_ble_eq_true rfl⟩ hl.1 (hP.sub [0] rfl) 0 rfl rfl rfl (Nat.le_of_ble_eq_true rfl) dX9_pin_2 (Nat.zero_le _) (Nat.zero_le _) ?_
  refine z_if_eqB (tgt := 30) C dX9_pin_5 (by decide) (fun c_5 => ?_) (fun c_5 => ?_)
  · have c_5 := of_decide_eq_false c_5; exact absurd c_5 (by omega)
  · have c_5 := of_decide_eq_true c_5
    refine lv_iload_n hx hb dX9_pin_8 rfl (lv_at hl 2 rfl) ?_
    refine z_iconst C dX9_pin_9 ?_
    refine z_iconst C dX9_pin_10 ?_
    refine z_cS (n := 3) (As := [.int (zI 1), .int (zI 0), .int (zI 2)]) (rest := []) C (k_X9_in l D dA (1) (0) (2) (by first | with_reducible assumption | omega | with_reducible rfl) (by first | with_reducible assumption | omega | with_reducible rfl) (by first | with_reducible assumption | omega | with_reducible rfl)) (lw_S q2090 q2091 q124 q2092) (by decide +kernel) rfl ⟨Nat.le_of_ble_eq_true rfl, Nat.le_of_ble_eq_true rfl⟩ hl.1 (hP.sub [] rfl) rfl (Nat.le_of_ble_eq_true rfl) dX9_pin_11 (Nat.zero_le _) (Nat.zero_le _) ?_
    refine z_if_eqB (tgt := 30) C dX9_pin_14 (by decide) (fun c_14 => ?_) (fun c_14 => ?_)
    · have c_14 := of_decide_eq_false c_14; exact absurd c_14 (by decide)
    · have c_14 := of_decide_eq_true c_14
      have b9 := bo (48 + k)
      refine lv_aload_n hx hb dX9_pin_17 rfl (lv_at hl 0 rfl) ?_
      refine z_get C hP 0 rfl rfl in_X9 21 (by decide) q1905 rfl dX9_pin_18 ?_
      refine z_bipush C dX9_pin_21 rfl ?_
      refine lv_iload_n hx hb dX9_pin_23 rfl (lv_at hl 1 rfl) ?_
      refine z_iaddN C (48) (k) rfl rfl dX9_pin_24 ?_
      refine z_iald C hP 1 rfl ((48 + k)) rfl (by omega) (by decide) dX9_pin_25 ?_
      refine lv_iload_n hx hb dX9_pin_26 rfl (lv_at hl 2 rfl) ?_
      refine z_icmp_ne (tgt := 32) C ⟨by omega, by omega⟩ ⟨by decide, by decide⟩ dX9_pin_27 (by decide) (fun c_27 => ?_) (fun c_27 => ?_)
      · refine lv_aload_n hx hb dX9_pin_32 rfl (lv_at hl 0 rfl) ?_
        refine z_gV (n := 0) (As := []) (rest := []) (wc := [(a, .inr (9, [v0, v1, v2, v3, v4, v5, v6, v7, v8, v9, v10, v11, v12, v13, v14, v15, v16, .int (zI ((w : Nat) : Int)), .int (zI ((le : Nat) : Int)), .int (zB (ra)), .int (zB (rl)), .ref (qn), v22, v23, v24, v25, v26, .ref (qr), .int (zI ((es : Nat) : Int)), .int (zI ((un : Nat) : Int)), .ref (qh), .ref (qi), .int (zB (kn)), v33, v34, v35, v36, v37, v38, v39, v40, v41, v42, v43, v44])), (qn, .inl (dA 3, 66, .inl (fun jz => zI (nw jz)))), (qr, .inl (dA 3, 2640, .inl (fun jz => zI (er jz))))]) (wr := []) C hP hD hS hA [0, 1, 2] [] rfl rfl (by decide) (by decide) (by decide) (k_X9_marksU l D dA (a) (v0) (v1) (v2) (v3) (v4) (v5) (v6) (v7) (v8) (v9) (v10) (v11) (v12) (v13) (v14) (v15) (v16) (v22) (v23) (v24) (v25) (v26) (v33) (v34) (v35) (v36) (v37) (v38) (v39) (v40) (v41) (v42) (v43) (v44) (w) (le) (es) (un) (qn) (qr) (qh) (qi) (ra) (rl) (kn) (nw) (er) (by first | with_reducible assumption | omega | with_reducible rfl) (by first | with_reducible assumption | omega | with_reducible rfl)) (lw_V q2135 q2137 qs83 q124 q2138) (by decide +kernel) rfl ⟨Nat.le_of_ble_eq_true rfl, Nat.le_of_ble_eq_true rfl⟩ hl.1 0 rfl rfl rfl (Nat.le_of_ble_eq_true rfl) dX9_pin_33 (by decide) (by decide) (fun _ H locs hp_33 hP hD hS _ => ?_)
        have hP := hP.sub (ws' := [(a, .inr (9, [v0, v1, v2, v3, v4, v5, v6, v7, v8, v9, v10, v11, v12, v13, v14, v15, v16, .int (zI ((w : Nat) : Int)), .int (zI ((le : Nat) : Int)), .int (zB (ra)), .int (zB (rl)), .ref (qn), v22, v23, v24, v25, v26, .ref (qr), .int (zI ((mkE es un : Nat) : Int)), .int (zI ((mkU un : Nat) : Int)), .ref (qh), .ref (qi), .int (zB (kn)), v33, v34, v35, v36, v37, v38, v39, v40, v41, v42, v43, v44])), (qn, .inl (dA 3, 66, .inl (fun jz => zI (nw jz)))), (qr, .inl (dA 3, 2640, .inl (fun jz => zI ((cpN er (fun i => mkA es un + i) nw (fun i => i) 66) jz))))]) [0, 1, 2] rfl
        have hD := hD.sub (ws' := [(a, .inr (9, [v0, v1, v2, v3, v4, v5, v6, v7, v8, v9, v10, v11, v12, v13, v14, v15, v16, .int (zI ((w : Nat) : Int)), .int (zI ((le : Nat) : Int)), .int (zB (ra)), .int (zB (rl)), .ref (qn), v22, v23, v24, v25, v26, .ref (qr), .int (zI ((mkE es un : Nat) : Int)), .int (zI ((mkU un : Nat) : Int)), .ref (qh), .ref (qi), .int (zB (kn)), v33, v34, v35, v36, v37, v38, v39, v40, v41, v42, v43, v44])), (qn, .inl (dA 3, 66, .inl (fun jz => zI (nw jz)))), (qr, .inl (dA 3, 2640, .inl (fun jz => zI ((cpN er (fun i => mkA es un + i) nw (fun i => i) 66) jz))))]) [0, 1, 2] (by decide) rfl
        refine W.widen (k := 0) (n := 0) (Nat.le_of_ble_eq_true rfl) (Nat.le_of_ble_eq_true rfl) ?_
        refine lv_aload_n hx hb dX9_pin_36 rfl (lv_at hl 0 rfl) ?_
        refine z_get C hP 0 rfl rfl in_X9 21 (by decide) q1905 rfl dX9_pin_37 ?_
        refine z_bipush C dX9_pin_40 rfl ?_
        refine lv_iload_n hx hb dX9_pin_42 rfl (lv_at hl 1 rfl) ?_
        refine z_iaddN C (48) (k) rfl rfl dX9_pin_43 ?_
        refine lv_iload_n hx hb dX9_pin_44 rfl (lv_at hl 2 rfl) ?_
        refine z_iast C hP hD hS 1 rfl ((48 + k)) rfl (by omega) (by decide) (v := 1) (ws' := [(a, .inr (9, [v0, v1, v2, v3, v4, v5, v6, v7, v8, v9, v10, v11, v12, v13, v14, v15, v16, .int (zI ((w : Nat) : Int)), .int (zI ((le : Nat) : Int)), .int (zB (ra)), .int (zB (rl)), .ref (qn), v22, v23, v24, v25, v26, .ref (qr), .int (zI ((mkE es un : Nat) : Int)), .int (zI ((mkU un : Nat) : Int)), .ref (qh), .ref (qi), .int (zB (kn)), v33, v34, v35, v36, v37, v38, v39, v40, v41, v42, v43, v44])), (qn, .inl (dA 3, 66, .inl (fun jz => zI ((va_up nw (48 + k) 1) jz)))), (qr, .inl (dA 3, 2640, .inl (fun jz => zI ((cpN er (fun i => mkA es un + i) nw (fun i => i) 66) jz))))]) rfl dX9_pin_45 (fun H locs hP hD hS => ?_)
        refine lv_iload_n hx hb dX9_pin_46 rfl (lv_at hl 2 rfl) ?_
        refine z_iconst C dX9_pin_47 ?_
        refine z_icmp_ne (tgt := 64) C ⟨by decide, by decide⟩ ⟨by decide, by decide⟩ dX9_pin_48 (by decide) (fun c => absurd c (by decide)) (fun _ => ?_)
        refine lv_aload_n hx hb dX9_pin_51 rfl (lv_at hl 0 rfl) ?_
        refine z_get C hP 0 rfl rfl in_X9 21 (by decide) q1905 rfl dX9_pin_52 ?_
        refine z_bipush C dX9_pin_55 rfl ?_
        refine lv_dup2_11 hx hb dX9_pin_57 rfl rfl ?_
        refine z_iald C hP 1 rfl (64) rfl (by omega) (by decide) dX9_pin_58 ?_
        rw [show va_up nw (48 + k) 1 64 = (st : Int) by rw [va_up_ne _ _ (by omega)]; exact h64]
        refine z_iconst C dX9_pin_59 ?_
        refine lv_iload_n hx hb dX9_pin_60 rfl (lv_at hl 1 rfl) ?_
        refine z_ishl1 C (k) rfl rfl (by omega) dX9_pin_61 ?_
        refine z_ior C (st) ((2 ^ k)) rfl rfl dX9_pin_62 ?_
        refine z_iast C hP hD hS 1 rfl (64) rfl (by omega) (by decide) (v := (((st ||| (2 ^ k)) : Nat) : Int)) (ws' := [(a, .inr (9, [v0, v1, v2, v3, v4, v5, v6, v7, v8, v9, v10, v11, v12, v13, v14, v15, v16, .int (zI ((w : Nat) : Int)), .int (zI ((le : Nat) : Int)), .int (zB (ra)), .int (zB (rl)), .ref (qn), v22, v23, v24, v25, v26, .ref (qr), .int (zI ((mkE es un : Nat) : Int)), .int (zI ((mkU un : Nat) : Int)), .ref (qh), .ref (qi), .int (zB (kn)), v33, v34, v35, v36, v37, v38, v39, v40, v41, v42, v43, v44])), (qn, .inl (dA 3, 66, .inl (fun jz => zI ((va_up (va_up nw (48 + k) 1) 64 (((st ||| (2 ^ k)) : Nat) : Int)) jz)))), (qr, .inl (dA 3, 2640, .inl (fun jz => zI ((cpN er (fun i => mkA es un + i) nw (fun i => i) 66) jz))))]) rfl dX9_pin_63 (fun H locs hP hD hS => ?_)
        refine lv_iload_n hx hb dX9_pin_64 rfl (lv_at hl 2 rfl) ?_
        refine z_iconst C dX9_pin_65 ?_
        refine z_icmp_ne (tgt := 84) C ⟨by decide, by decide⟩ ⟨by decide, by decide⟩ dX9_pin_66 (by decide) (fun _ => ?_) (fun c => absurd c (by decide))
        refine lv_aload_n hx hb dX9_pin_84 rfl (lv_at hl 0 rfl) ?_
        refine z_iconst C dX9_pin_85 ?_
        refine z_put C hP hD hS 0 rfl rfl in_X9 tyX9_ok nmX9 32 (by decide) q1916 rfl (v := .int (zB (false))) (zB_nar _) rfl (Nat.le_of_ble_eq_true rfl) (ws' := [(a, .inr (9, [v0, v1, v2, v3, v4, v5, v6, v7, v8, v9, v10, v11, v12, v13, v14, v15, v16, .int (zI ((w : Nat) : Int)), .int (zI ((le : Nat) : Int)), .int (zB (ra)), .int (zB (rl)), .ref (qn), v22, v23, v24, v25, v26, .ref (qr), .int (zI ((mkE es un : Nat) : Int)), .int (zI ((mkU un : Nat) : Int)), .ref (qh), .ref (qi), .int (zB (false)), v33, v34, v35, v36, v37, v38, v39, v40, v41, v42, v43, v44])), (qn, .inl (dA 3, 66, .inl (fun jz => zI ((va_up (va_up nw (48 + k) 1) 64 (((st ||| (2 ^ k)) : Nat) : Int)) jz)))), (qr, .inl (dA 3, 2640, .inl (fun jz => zI ((cpN er (fun i => mkA es un + i) nw (fun i => i) 66) jz))))]) rfl dX9_pin_86 (fun H locs hP hD hS => ?_)
        refine z_iconst C dX9_pin_89 ?_
        exact z_zretG (a := true) C hlk hr hQ () rfl trivial (hP.sub [0, 1, 2] rfl) (hD.sub [0, 1, 2] (by decide) rfl) hS (Nat.le_of_ble_eq_true rfl) (Nat.le_of_ble_eq_true rfl) dX9_pin_90
      · exact absurd c_27 hp
set_option maxHeartbeats 600000 in
set_option maxRecDepth 100000 in
theorem k_X9_pin2 (l : Launch) (D : va_G) (dA : Nat → ClassId) (a : Nat) (v0 v1 v2 v3 v4 v5 v6 v7 v8 v9 v10 v11 v12 v13 v14 v15 v16 v22 v23 v24 v25 v26 v33 v34 v35 v36 v37 v38 v39 v40 v41 v42 v43 v44 : Value) (w le es un qn qr qh qi : Nat) (ra rl kn : Bool) (nw er : Nat → Int) (k st : Nat) (hwl : w * le ≤ 16) (hes : es < 40) (hun : un ≤ 40) (hk : k < w * le) (bo : ∀ j, -1000000 ≤ nw j ∧ nw j ≤ 1000000) (hp : nw (48 + k) ≠ 2) (h64 : nw 64 = (st : Int)) (hst : st < 65536) : zG (S := Unit) l yX9_pin cX9_pin 3 (some .boolean) (zRmW 2 43 0 0) D dA [.ref (a), .int (zI ((k : Nat) : Int)), .int (zI 2)] [(a, .inr (9, [v0, v1, v2, v3, v4, v5, v6, v7, v8, v9, v10, v11, v12, v13, v14, v15, v16, .int (zI ((w : Nat) : Int)), .int (zI ((le : Nat) : Int)), .int (zB (ra)), .int (zB (rl)), .ref (qn), v22, v23, v24, v25, v26, .ref (qr), .int (zI ((es : Nat) : Int)), .int (zI ((un : Nat) : Int)), .ref (qh), .ref (qi), .int (zB (kn)), v33, v34, v35, v36, v37, v38, v39, v40, v41, v42, v43, v44])), (qn, .inl (dA 3, 66, .inl (fun jz => zI (nw jz)))), (qr, .inl (dA 3, 2640, .inl (fun jz => zI (er jz))))] (fun _ : Unit => some (.int (zB (true)))) (fun _ : Unit => True) (fun _ : Unit => [(a, .inr (9, [v0, v1, v2, v3, v4, v5, v6, v7, v8, v9, v10, v11, v12, v13, v14, v15, v16, .int (zI ((w : Nat) : Int)), .int (zI ((le : Nat) : Int)), .int (zB (ra)), .int (zB (rl)), .ref (qn), v22, v23, v24, v25, v26, .ref (qr), .int (zI ((mkE es un : Nat) : Int)), .int (zI ((mkU un : Nat) : Int)), .ref (qh), .ref (qi), .int (zB (false)), v33, v34, v35, v36, v37, v38, v39, v40, v41, v42, v43, v44])), (qn, .inl (dA 3, 66, .inl (fun jz => zI ((va_up (va_up nw (48 + k) 2) 64 ((zclr st (2 ^ k) : Nat) : Int)) jz)))), (qr, .inl (dA 3, 2640, .inl (fun jz => zI ((cpN er (fun i => mkA es un + i) nw (fun i => i) 66) jz))))]) := by
  refine zG.of (by decide +kernel) rfl ?_
  intro pp ee ss mm args below meth cd Q A C hr hlk hQ hA hin H locs hP hD hS ls hl
  have hx := C.1.1
  have hb := C.1.2.1
  have hl : lv_has ls 3 [(0, .ref (a)), (1, .int (zI ((k : Nat) : Int))), (2, .int (zI 2))] := hl
  refine lv_aload_n hx hb dX9_pin_0 rfl (lv_at hl 0 rfl) ?_
  refine lv_iload_n hx hb dX9_pin_1 rfl (lv_at hl 1 rfl) ?_
  refine z_cV (n := 1) (As := [.int (zI ((k : Nat) : Int))]) (rest := []) C hP (k_X9_isSite l D dA (a) (v0) (v1) (v2) (v3) (v4) (v5) (v6) (v7) (v8) (v9) (v10) (v11) (v12) (v13) (v14) (v15) (v16) (v22) (v23) (v24) (v25) (v26) (.ref (qr)) (.int (zI ((es : Nat) : Int))) (.int (zI ((un : Nat) : Int))) (.ref (qh)) (.ref (qi)) (.int (zB (kn))) (v33) (v34) (v35) (v36) (v37) (v38) (v39) (v40) (v41) (v42) (v43) (v44) (w) (le) (ra) (rl) (qn) (((k : Nat) : Int)) (by first | with_reducible assumption | omega | with_reducible rfl) (by first | with_reducible assumption | omega | with_reducible rfl)) (lw_V q2124 q2126 qs81 q124 q2127) (by decide +kernel) rfl ⟨Nat.le_of_ble_eq_true rfl, Nat.le_of_ble_eq_true rfl⟩ hl.1 (hP.sub [0] rfl) 0 rfl rfl rfl (Nat.le_of_ble_eq_true rfl) dX9_pin_2 (Nat.zero_le _) (Nat.zero_le _) ?_
  refine z_if_eqB (tgt := 30) C dX9_pin_5 (by decide) (fun c_5 => ?_) (fun c_5 => ?_)
  · have c_5 := of_decide_eq_false c_5; exact absurd c_5 (by omega)
  · have c_5 := of_decide_eq_true c_5
    refine lv_iload_n hx hb dX9_pin_8 rfl (lv_at hl 2 rfl) ?_
    refine z_iconst C dX9_pin_9 ?_
    refine z_iconst C dX9_pin_10 ?_
    refine z_cS (n := 3) (As := [.int (zI 2), .int (zI 0), .int (zI 2)]) (rest := []) C (k_X9_in l D dA (2) (0) (2) (by first | with_reducible assumption | omega | with_reducible rfl) (by first | with_reducible assumption | omega | with_reducible rfl) (by first | with_reducible assumption | omega | with_reducible rfl)) (lw_S q2090 q2091 q124 q2092) (by decide +kernel) rfl ⟨Nat.le_of_ble_eq_true rfl, Nat.le_of_ble_eq_true rfl⟩ hl.1 (hP.sub [] rfl) rfl (Nat.le_of_ble_eq_true rfl) dX9_pin_11 (Nat.zero_le _) (Nat.zero_le _) ?_
    refine z_if_eqB (tgt := 30) C dX9_pin_14 (by decide) (fun c_14 => ?_) (fun c_14 => ?_)
    · have c_14 := of_decide_eq_false c_14; exact absurd c_14 (by decide)
    · have c_14 := of_decide_eq_true c_14
      have b9 := bo (48 + k)
      refine lv_aload_n hx hb dX9_pin_17 rfl (lv_at hl 0 rfl) ?_
      refine z_get C hP 0 rfl rfl in_X9 21 (by decide) q1905 rfl dX9_pin_18 ?_
      refine z_bipush C dX9_pin_21 rfl ?_
      refine lv_iload_n hx hb dX9_pin_23 rfl (lv_at hl 1 rfl) ?_
      refine z_iaddN C (48) (k) rfl rfl dX9_pin_24 ?_
      refine z_iald C hP 1 rfl ((48 + k)) rfl (by omega) (by decide) dX9_pin_25 ?_
      refine lv_iload_n hx hb dX9_pin_26 rfl (lv_at hl 2 rfl) ?_
      refine z_icmp_ne (tgt := 32) C ⟨by omega, by omega⟩ ⟨by decide, by decide⟩ dX9_pin_27 (by decide) (fun c_27 => ?_) (fun c_27 => ?_)
      · refine lv_aload_n hx hb dX9_pin_32 rfl (lv_at hl 0 rfl) ?_
        refine z_gV (n := 0) (As := []) (rest := []) (wc := [(a, .inr (9, [v0, v1, v2, v3, v4, v5, v6, v7, v8, v9, v10, v11, v12, v13, v14, v15, v16, .int (zI ((w : Nat) : Int)), .int (zI ((le : Nat) : Int)), .int (zB (ra)), .int (zB (rl)), .ref (qn), v22, v23, v24, v25, v26, .ref (qr), .int (zI ((es : Nat) : Int)), .int (zI ((un : Nat) : Int)), .ref (qh), .ref (qi), .int (zB (kn)), v33, v34, v35, v36, v37, v38, v39, v40, v41, v42, v43, v44])), (qn, .inl (dA 3, 66, .inl (fun jz => zI (nw jz)))), (qr, .inl (dA 3, 2640, .inl (fun jz => zI (er jz))))]) (wr := []) C hP hD hS hA [0, 1, 2] [] rfl rfl (by decide) (by decide) (by decide) (k_X9_marksU l D dA (a) (v0) (v1) (v2) (v3) (v4) (v5) (v6) (v7) (v8) (v9) (v10) (v11) (v12) (v13) (v14) (v15) (v16) (v22) (v23) (v24) (v25) (v26) (v33) (v34) (v35) (v36) (v37) (v38) (v39) (v40) (v41) (v42) (v43) (v44) (w) (le) (es) (un) (qn) (qr) (qh) (qi) (ra) (rl) (kn) (nw) (er) (by first | with_reducible assumption | omega | with_reducible rfl) (by first | with_reducible assumption | omega | with_reducible rfl)) (lw_V q2135 q2137 qs83 q124 q2138) (by decide +kernel) rfl ⟨Nat.le_of_ble_eq_true rfl, Nat.le_of_ble_eq_true rfl⟩ hl.1 0 rfl rfl rfl (Nat.le_of_ble_eq_true rfl) dX9_pin_33 (by decide) (by decide) (fun _ H locs hp_33 hP hD hS _ => ?_)
        have hP := hP.sub (ws' := [(a, .inr (9, [v0, v1, v2, v3, v4, v5, v6, v7, v8, v9, v10, v11, v12, v13, v14, v15, v16, .int (zI ((w : Nat) : Int)), .int (zI ((le : Nat) : Int)), .int (zB (ra)), .int (zB (rl)), .ref (qn), v22, v23, v24, v25, v26, .ref (qr), .int (zI ((mkE es un : Nat) : Int)), .int (zI ((mkU un : Nat) : Int)), .ref (qh), .ref (qi), .int (zB (kn)), v33, v34, v35, v36, v37, v38, v39, v40, v41, v42, v43, v44])), (qn, .inl (dA 3, 66, .inl (fun jz => zI (nw jz)))), (qr, .inl (dA 3, 2640, .inl (fun jz => zI ((cpN er (fun i => mkA es un + i) nw (fun i => i) 66) jz))))]) [0, 1, 2] rfl
        have hD := hD.sub (ws' := [(a, .inr (9, [v0, v1, v2, v3, v4, v5, v6, v7, v8, v9, v10, v11, v12, v13, v14, v15, v16, .int (zI ((w : Nat) : Int)), .int (zI ((le : Nat) : Int)), .int (zB (ra)), .int (zB (rl)), .ref (qn), v22, v23, v24, v25, v26, .ref (qr), .int (zI ((mkE es un : Nat) : Int)), .int (zI ((mkU un : Nat) : Int)), .ref (qh), .ref (qi), .int (zB (kn)), v33, v34, v35, v36, v37, v38, v39, v40, v41, v42, v43, v44])), (qn, .inl (dA 3, 66, .inl (fun jz => zI (nw jz)))), (qr, .inl (dA 3, 2640, .inl (fun jz => zI ((cpN er (fun i => mkA es un + i) nw (fun i => i) 66) jz))))]) [0, 1, 2] (by decide) rfl
        refine W.widen (k := 0) (n := 0) (Nat.le_of_ble_eq_true rfl) (Nat.le_of_ble_eq_true rfl) ?_
        refine lv_aload_n hx hb dX9_pin_36 rfl (lv_at hl 0 rfl) ?_
        refine z_get C hP 0 rfl rfl in_X9 21 (by decide) q1905 rfl dX9_pin_37 ?_
        refine z_bipush C dX9_pin_40 rfl ?_
        refine lv_iload_n hx hb dX9_pin_42 rfl (lv_at hl 1 rfl) ?_
        refine z_iaddN C (48) (k) rfl rfl dX9_pin_43 ?_
        refine lv_iload_n hx hb dX9_pin_44 rfl (lv_at hl 2 rfl) ?_
        refine z_iast C hP hD hS 1 rfl ((48 + k)) rfl (by omega) (by decide) (v := 2) (ws' := [(a, .inr (9, [v0, v1, v2, v3, v4, v5, v6, v7, v8, v9, v10, v11, v12, v13, v14, v15, v16, .int (zI ((w : Nat) : Int)), .int (zI ((le : Nat) : Int)), .int (zB (ra)), .int (zB (rl)), .ref (qn), v22, v23, v24, v25, v26, .ref (qr), .int (zI ((mkE es un : Nat) : Int)), .int (zI ((mkU un : Nat) : Int)), .ref (qh), .ref (qi), .int (zB (kn)), v33, v34, v35, v36, v37, v38, v39, v40, v41, v42, v43, v44])), (qn, .inl (dA 3, 66, .inl (fun jz => zI ((va_up nw (48 + k) 2) jz)))), (qr, .inl (dA 3, 2640, .inl (fun jz => zI ((cpN er (fun i => mkA es un + i) nw (fun i => i) 66) jz))))]) rfl dX9_pin_45 (fun H locs hP hD hS => ?_)
        refine lv_iload_n hx hb dX9_pin_46 rfl (lv_at hl 2 rfl) ?_
        refine z_iconst C dX9_pin_47 ?_
        refine z_icmp_ne (tgt := 64) C ⟨by decide, by decide⟩ ⟨by decide, by decide⟩ dX9_pin_48 (by decide) (fun _ => ?_) (fun c => absurd c (by decide))
        refine lv_iload_n hx hb dX9_pin_64 rfl (lv_at hl 2 rfl) ?_
        refine z_iconst C dX9_pin_65 ?_
        refine z_icmp_ne (tgt := 84) C ⟨by decide, by decide⟩ ⟨by decide, by decide⟩ dX9_pin_66 (by decide) (fun c => absurd c (by decide)) (fun _ => ?_)
        refine lv_aload_n hx hb dX9_pin_69 rfl (lv_at hl 0 rfl) ?_
        refine z_get C hP 0 rfl rfl in_X9 21 (by decide) q1905 rfl dX9_pin_70 ?_
        refine z_bipush C dX9_pin_73 rfl ?_
        refine lv_dup2_11 hx hb dX9_pin_75 rfl rfl ?_
        refine z_iald C hP 1 rfl (64) rfl (by omega) (by decide) dX9_pin_76 ?_
        rw [show va_up nw (48 + k) 2 64 = (st : Int) by rw [va_up_ne _ _ (by omega)]; exact h64]
        refine z_iconst C dX9_pin_77 ?_
        refine lv_iload_n hx hb dX9_pin_78 rfl (lv_at hl 1 rfl) ?_
        refine z_ishl1 C (k) rfl rfl (by omega) dX9_pin_79 ?_
        refine z_iconst C dX9_pin_80 ?_
        refine z_inot C dX9_pin_81 ?_
        refine z_iandnot C (st) ((2 ^ k)) rfl rfl dX9_pin_82 ?_
        refine z_iast C hP hD hS 1 rfl (64) rfl (by omega) (by decide) (v := (((zclr st (2 ^ k)) : Nat) : Int)) (ws' := [(a, .inr (9, [v0, v1, v2, v3, v4, v5, v6, v7, v8, v9, v10, v11, v12, v13, v14, v15, v16, .int (zI ((w : Nat) : Int)), .int (zI ((le : Nat) : Int)), .int (zB (ra)), .int (zB (rl)), .ref (qn), v22, v23, v24, v25, v26, .ref (qr), .int (zI ((mkE es un : Nat) : Int)), .int (zI ((mkU un : Nat) : Int)), .ref (qh), .ref (qi), .int (zB (kn)), v33, v34, v35, v36, v37, v38, v39, v40, v41, v42, v43, v44])), (qn, .inl (dA 3, 66, .inl (fun jz => zI ((va_up (va_up nw (48 + k) 2) 64 (((zclr st (2 ^ k)) : Nat) : Int)) jz)))), (qr, .inl (dA 3, 2640, .inl (fun jz => zI ((cpN er (fun i => mkA es un + i) nw (fun i => i) 66) jz))))]) rfl dX9_pin_83 (fun H locs hP hD hS => ?_)
        refine lv_aload_n hx hb dX9_pin_84 rfl (lv_at hl 0 rfl) ?_
        refine z_iconst C dX9_pin_85 ?_
        refine z_put C hP hD hS 0 rfl rfl in_X9 tyX9_ok nmX9 32 (by decide) q1916 rfl (v := .int (zB (false))) (zB_nar _) rfl (Nat.le_of_ble_eq_true rfl) (ws' := [(a, .inr (9, [v0, v1, v2, v3, v4, v5, v6, v7, v8, v9, v10, v11, v12, v13, v14, v15, v16, .int (zI ((w : Nat) : Int)), .int (zI ((le : Nat) : Int)), .int (zB (ra)), .int (zB (rl)), .ref (qn), v22, v23, v24, v25, v26, .ref (qr), .int (zI ((mkE es un : Nat) : Int)), .int (zI ((mkU un : Nat) : Int)), .ref (qh), .ref (qi), .int (zB (false)), v33, v34, v35, v36, v37, v38, v39, v40, v41, v42, v43, v44])), (qn, .inl (dA 3, 66, .inl (fun jz => zI ((va_up (va_up nw (48 + k) 2) 64 (((zclr st (2 ^ k)) : Nat) : Int)) jz)))), (qr, .inl (dA 3, 2640, .inl (fun jz => zI ((cpN er (fun i => mkA es un + i) nw (fun i => i) 66) jz))))]) rfl dX9_pin_86 (fun H locs hP hD hS => ?_)
        refine z_iconst C dX9_pin_89 ?_
        exact z_zretG (a := true) C hlk hr hQ () rfl trivial (hP.sub [0, 1, 2] rfl) (hD.sub [0, 1, 2] (by decide) rfl) hS (Nat.le_of_ble_eq_true rfl) (Nat.le_of_ble_eq_true rfl) dX9_pin_90
      · exact absurd c_27 hp
set_option maxHeartbeats 600000 in
set_option maxRecDepth 100000 in
theorem k_X9_pin_no (l : Launch) (D : va_G) (dA : Nat → ClassId) (a : Nat) (v0 v1 v2 v3 v4 v5 v6 v7 v8 v9 v10 v11 v12 v13 v14 v15 v16 v22 v23 v24 v25 v26 v33 v34 v35 v36 v37 v38 v39 v40 v41 v42 v43 v44 : Value) (w le es un qn qr qh qi : Nat) (ra rl kn : Bool) (nw : Nat → Int) (k j : Int) (hwl : w * le ≤ 16) (bo : ∀ j, -1000000 ≤ nw j ∧ nw j ≤ 1000000) (hz : zR k) (hzj : zR j) (hno : ¬ (0 ≤ k ∧ k < ((w * le : Nat) : Int)) ∨ ¬ (0 ≤ j ∧ j ≤ 2) ∨ nw (48 + k.toNat) = j) : zM l yX9_pin cX9_pin 3 (some .boolean) (zRm 2 43) D dA [.ref (a), .int (zI (k)), .int (zI (j))] [(a, .inr (9, [v0, v1, v2, v3, v4, v5, v6, v7, v8, v9, v10, v11, v12, v13, v14, v15, v16, .int (zI ((w : Nat) : Int)), .int (zI ((le : Nat) : Int)), .int (zB (ra)), .int (zB (rl)), .ref (qn), v22, v23, v24, v25, v26, .ref (qr), .int (zI ((es : Nat) : Int)), .int (zI ((un : Nat) : Int)), .ref (qh), .ref (qi), .int (zB (kn)), v33, v34, v35, v36, v37, v38, v39, v40, v41, v42, v43, v44])), (qn, .inl (dA 3, 66, .inl (fun jz => zI (nw jz))))] (some (.int (zB (false)))) := by
  refine zM.of (by decide +kernel) rfl ?_
  intro pp ee ss mm args below meth cd Q C hr hlk hQ hP ls hl
  have hx := C.1.1
  have hb := C.1.2.1
  have hl : lv_has ls 3 [(0, .ref (a)), (1, .int (zI (k))), (2, .int (zI (j)))] := hl
  refine lv_aload_n hx hb dX9_pin_0 rfl (lv_at hl 0 rfl) ?_
  refine lv_iload_n hx hb dX9_pin_1 rfl (lv_at hl 1 rfl) ?_
  refine z_cV (n := 1) (As := [.int (zI (k))]) (rest := []) C hP (k_X9_isSite l D dA (a) (v0) (v1) (v2) (v3) (v4) (v5) (v6) (v7) (v8) (v9) (v10) (v11) (v12) (v13) (v14) (v15) (v16) (v22) (v23) (v24) (v25) (v26) (.ref (qr)) (.int (zI ((es : Nat) : Int))) (.int (zI ((un : Nat) : Int))) (.ref (qh)) (.ref (qi)) (.int (zB (kn))) (v33) (v34) (v35) (v36) (v37) (v38) (v39) (v40) (v41) (v42) (v43) (v44) (w) (le) (ra) (rl) (qn) ((k)) (by first | with_reducible assumption | omega | with_reducible rfl) (by first | with_reducible assumption | omega | with_reducible rfl)) (lw_V q2124 q2126 qs81 q124 q2127) (by decide +kernel) rfl ⟨Nat.le_of_ble_eq_true rfl, Nat.le_of_ble_eq_true rfl⟩ hl.1 (hP.sub [0] rfl) 0 rfl rfl rfl (Nat.le_of_ble_eq_true rfl) dX9_pin_2 (Nat.zero_le _) (Nat.zero_le _) ?_
  refine z_if_eqB (tgt := 30) C dX9_pin_5 (by decide) (fun c_5 => ?_) (fun c_5 => ?_)
  · have c_5 := of_decide_eq_false c_5
    refine z_iconst C dX9_pin_30 ?_
    exact z_zret0 C hlk hr hQ rfl dX9_pin_31
  · have c_5 := of_decide_eq_true c_5
    refine lv_iload_n hx hb dX9_pin_8 rfl (lv_at hl 2 rfl) ?_
    refine z_iconst C dX9_pin_9 ?_
    refine z_iconst C dX9_pin_10 ?_
    refine z_cS (n := 3) (As := [.int (zI (j)), .int (zI 0), .int (zI 2)]) (rest := []) C (k_X9_in l D dA ((j)) (0) (2) (by first | with_reducible assumption | omega | with_reducible rfl) (by first | with_reducible assumption | omega | with_reducible rfl) (by first | with_reducible assumption | omega | with_reducible rfl)) (lw_S q2090 q2091 q124 q2092) (by decide +kernel) rfl ⟨Nat.le_of_ble_eq_true rfl, Nat.le_of_ble_eq_true rfl⟩ hl.1 (hP.sub [] rfl) rfl (Nat.le_of_ble_eq_true rfl) dX9_pin_11 (Nat.zero_le _) (Nat.zero_le _) ?_
    refine z_if_eqB (tgt := 30) C dX9_pin_14 (by decide) (fun c_14 => ?_) (fun c_14 => ?_)
    · have c_14 := of_decide_eq_false c_14
      refine z_iconst C dX9_pin_30 ?_
      exact z_zret0 C hlk hr hQ rfl dX9_pin_31
    · have c_14 := of_decide_eq_true c_14
      obtain ⟨kq, rfl⟩ : ∃ q : Nat, k = (q : Int) := ⟨k.toNat, by omega⟩
      have b9 := bo (48 + kq)
      rw [Int.toNat_natCast] at hno
      refine lv_aload_n hx hb dX9_pin_17 rfl (lv_at hl 0 rfl) ?_
      refine z_get C hP 0 rfl rfl in_X9 21 (by decide) q1905 rfl dX9_pin_18 ?_
      refine z_bipush C dX9_pin_21 rfl ?_
      refine lv_iload_n hx hb dX9_pin_23 rfl (lv_at hl 1 rfl) ?_
      refine z_iaddN C (48) (kq) rfl rfl dX9_pin_24 ?_
      refine z_iald C hP 1 rfl ((48 + kq)) rfl (by omega) (by decide) dX9_pin_25 ?_
      refine lv_iload_n hx hb dX9_pin_26 rfl (lv_at hl 2 rfl) ?_
      refine z_icmp_ne (tgt := 32) C ⟨by omega, by omega⟩ ⟨by omega, by omega⟩ dX9_pin_27 (by decide) (fun c_27 => ?_) (fun c_27 => ?_)
      · exact absurd hno (by omega)
      · refine z_iconst C dX9_pin_30 ?_
        exact z_zret0 C hlk hr hQ rfl dX9_pin_31
set_option maxHeartbeats 600000 in
set_option maxRecDepth 100000 in
theorem k_X9_tie_true (l : Launch) (D : va_G) (dA : Nat → ClassId) (a : Nat) (v0 v1 v2 v3 v4 v5 v6 v7 v8 v9 v10 v11 v12 v13 v14 v15 v16 v22 v23 v24 v25 v26 v33 v34 v35 v36 v37 v38 v39 v40 v41 v42 v43 v44 : Value) (w le es un qn qr qh qi : Nat) (ra rl kn : Bool) (nw er : Nat → Int) (k : Nat) (j : Int) (hwl : w * le ≤ 16) (hes : es < 40) (hun : un ≤ 40) (hk : k < w * le) (bo : ∀ j, -1000000 ≤ nw j ∧ nw j ≤ 1000000) (hj : -3 ≤ j ∧ j ≤ 3) (ho : 0 ≤ oth w le (rgOf ra rl) k true) (hp : nw (16 + k) ≠ j) : zG (S := Unit) l yX9_tie cX9_tie 4 (some .boolean) (zRmW 2 48 0 0) D dA [.ref (a), .int (zI ((k : Nat) : Int)), .int (zB (true)), .int (zI (j))] [(a, .inr (9, [v0, v1, v2, v3, v4, v5, v6, v7, v8, v9, v10, v11, v12, v13, v14, v15, v16, .int (zI ((w : Nat) : Int)), .int (zI ((le : Nat) : Int)), .int (zB (ra)), .int (zB (rl)), .ref (qn), v22, v23, v24, v25, v26, .ref (qr), .int (zI ((es : Nat) : Int)), .int (zI ((un : Nat) : Int)), .ref (qh), .ref (qi), .int (zB (kn)), v33, v34, v35, v36, v37, v38, v39, v40, v41, v42, v43, v44])), (qn, .inl (dA 3, 66, .inl (fun jz => zI (nw jz)))), (qr, .inl (dA 3, 2640, .inl (fun jz => zI (er jz))))] (fun _ : Unit => some (.int (zB (true)))) (fun _ : Unit => True) (fun _ : Unit => [(a, .inr (9, [v0, v1, v2, v3, v4, v5, v6, v7, v8, v9, v10, v11, v12, v13, v14, v15, v16, .int (zI ((w : Nat) : Int)), .int (zI ((le : Nat) : Int)), .int (zB (ra)), .int (zB (rl)), .ref (qn), v22, v23, v24, v25, v26, .ref (qr), .int (zI ((mkE es un : Nat) : Int)), .int (zI ((mkU un : Nat) : Int)), .ref (qh), .ref (qi), .int (zB (false)), v33, v34, v35, v36, v37, v38, v39, v40, v41, v42, v43, v44])), (qn, .inl (dA 3, 66, .inl (fun jz => zI ((va_up nw (16 + k) j) jz)))), (qr, .inl (dA 3, 2640, .inl (fun jz => zI ((cpN er (fun i => mkA es un + i) nw (fun i => i) 66) jz))))]) := by
  refine zG.of (by decide +kernel) rfl ?_
  intro pp ee ss mm args below meth cd Q A C hr hlk hQ hA hin H locs hP hD hS ls hl
  have hx := C.1.1
  have hb := C.1.2.1
  have hl : lv_has ls 4 [(0, .ref (a)), (1, .int (zI ((k : Nat) : Int))), (2, .int (zB (true))), (3, .int (zI (j)))] := hl
  have o9 := oth_lt (rgOf ra rl) true hk
  have bj := bo (16 + k)
  refine lv_aload_n hx hb dX9_tie_0 rfl (lv_at hl 0 rfl) ?_
  refine lv_iload_n hx hb dX9_tie_1 rfl (lv_at hl 1 rfl) ?_
  refine z_cV (n := 1) (As := [.int (zI ((k : Nat) : Int))]) (rest := []) C hP (k_X9_isSite l D dA (a) (v0) (v1) (v2) (v3) (v4) (v5) (v6) (v7) (v8) (v9) (v10) (v11) (v12) (v13) (v14) (v15) (v16) (v22) (v23) (v24) (v25) (v26) (.ref (qr)) (.int (zI ((es : Nat) : Int))) (.int (zI ((un : Nat) : Int))) (.ref (qh)) (.ref (qi)) (.int (zB (kn))) (v33) (v34) (v35) (v36) (v37) (v38) (v39) (v40) (v41) (v42) (v43) (v44) (w) (le) (ra) (rl) (qn) (((k : Nat) : Int)) (by first | with_reducible assumption | omega | with_reducible rfl) (by first | with_reducible assumption | omega | with_reducible rfl)) (lw_V q2124 q2126 qs81 q124 q2127) (by decide +kernel) rfl ⟨Nat.le_of_ble_eq_true rfl, Nat.le_of_ble_eq_true rfl⟩ hl.1 (hP.sub [0] rfl) 0 rfl rfl rfl (Nat.le_of_ble_eq_true rfl) dX9_tie_2 (Nat.zero_le _) (Nat.zero_le _) ?_
  refine z_if_eqB (tgt := 40) C dX9_tie_5 (by decide) (fun c_5 => ?_) (fun c_5 => ?_)
  · have c_5 := of_decide_eq_false c_5; exact absurd c_5 (by omega)
  · have c_5 := of_decide_eq_true c_5
    refine lv_iload_n hx hb dX9_tie_8 rfl (lv_at hl 3 rfl) ?_
    refine z_bipush C dX9_tie_9 rfl ?_
    refine z_iconst C dX9_tie_11 ?_
    refine z_cS (n := 3) (As := [.int (zI (j)), .int (zI (-3)), .int (zI 3)]) (rest := []) C (k_X9_in l D dA ((j)) ((-3)) (3) (by first | with_reducible assumption | omega | with_reducible rfl) (by first | with_reducible assumption | omega | with_reducible rfl) (by first | with_reducible assumption | omega | with_reducible rfl)) (lw_S q2090 q2091 q124 q2092) (by decide +kernel) rfl ⟨Nat.le_of_ble_eq_true rfl, Nat.le_of_ble_eq_true rfl⟩ hl.1 (hP.sub [] rfl) rfl (Nat.le_of_ble_eq_true rfl) dX9_tie_12 (Nat.zero_le _) (Nat.zero_le _) ?_
    refine z_if_eqB (tgt := 40) C dX9_tie_15 (by decide) (fun c_15 => ?_) (fun c_15 => ?_)
    · have c_15 := of_decide_eq_false c_15; exact absurd c_15 (by omega)
    · have c_15 := of_decide_eq_true c_15
      refine lv_aload_n hx hb dX9_tie_18 rfl (lv_at hl 0 rfl) ?_
      refine lv_iload_n hx hb dX9_tie_19 rfl (lv_at hl 1 rfl) ?_
      refine lv_iload_n hx hb dX9_tie_20 rfl (lv_at hl 2 rfl) ?_
      refine z_cV (n := 2) (As := [.int (zI ((k : Nat) : Int)), .int (zB (true))]) (rest := []) C hP (k_X9_tieTo l D dA (a) (v0) (v1) (v2) (v3) (v4) (v5) (v6) (v7) (v8) (v9) (v10) (v11) (v12) (v13) (v14) (v15) (v16) (v22) (v23) (v24) (v25) (v26) (.ref (qr)) (.int (zI ((es : Nat) : Int))) (.int (zI ((un : Nat) : Int))) (.ref (qh)) (.ref (qi)) (.int (zB (kn))) (v33) (v34) (v35) (v36) (v37) (v38) (v39) (v40) (v41) (v42) (v43) (v44) (w) (le) (ra) (rl) (qn) (k) (true) (by first | with_reducible assumption | omega | with_reducible rfl) (by first | with_reducible assumption | omega | with_reducible rfl)) (lw_V q2128 q2130 qs82 q124 q2131) (by decide +kernel) rfl ⟨Nat.le_of_ble_eq_true rfl, Nat.le_of_ble_eq_true rfl⟩ hl.1 (hP.sub [0] rfl) 0 rfl rfl rfl (Nat.le_of_ble_eq_true rfl) dX9_tie_21 (Nat.zero_le _) (Nat.zero_le _) ?_
      refine z_if_lt (tgt := 40) C ⟨by omega, by omega⟩ dX9_tie_24 (by decide) (fun c_24 => ?_) (fun c_24 => ?_)
      · exact absurd c_24 (by omega)
      · refine lv_aload_n hx hb dX9_tie_27 rfl (lv_at hl 0 rfl) ?_
        refine z_get C hP 0 rfl rfl in_X9 21 (by decide) q1905 rfl dX9_tie_28 ?_
        refine lv_iload_n hx hb dX9_tie_31 rfl (lv_at hl 1 rfl) ?_
        refine lv_iload_n hx hb dX9_tie_32 rfl (lv_at hl 2 rfl) ?_
        refine z_cS (n := 3) (As := [.ref (qn), .int (zI ((k : Nat) : Int)), .int (zB (true))]) (rest := []) C (k_X9_jOf l D dA (qn) (nw) (k) (true) (by first | with_reducible assumption | omega | with_reducible rfl)) (lw_S q2132 q2133 q124 q2134) (by decide +kernel) rfl ⟨Nat.le_of_ble_eq_true rfl, Nat.le_of_ble_eq_true rfl⟩ hl.1 (hP.sub [1] rfl) rfl (Nat.le_of_ble_eq_true rfl) dX9_tie_33 (Nat.zero_le _) (Nat.zero_le _) ?_
        rw [show jw nw (fun j => nw (16 + j)) k true = nw (16 + k) from rfl]
        refine lv_iload_n hx hb dX9_tie_36 rfl (lv_at hl 3 rfl) ?_
        refine z_icmp_ne (tgt := 42) C ⟨by omega, by omega⟩ ⟨by omega, by omega⟩ dX9_tie_37 (by decide) (fun c_37 => ?_) (fun c_37 => ?_)
        · refine lv_aload_n hx hb dX9_tie_42 rfl (lv_at hl 0 rfl) ?_
          refine z_gV (n := 0) (As := []) (rest := []) (wc := [(a, .inr (9, [v0, v1, v2, v3, v4, v5, v6, v7, v8, v9, v10, v11, v12, v13, v14, v15, v16, .int (zI ((w : Nat) : Int)), .int (zI ((le : Nat) : Int)), .int (zB (ra)), .int (zB (rl)), .ref (qn), v22, v23, v24, v25, v26, .ref (qr), .int (zI ((es : Nat) : Int)), .int (zI ((un : Nat) : Int)), .ref (qh), .ref (qi), .int (zB (kn)), v33, v34, v35, v36, v37, v38, v39, v40, v41, v42, v43, v44])), (qn, .inl (dA 3, 66, .inl (fun jz => zI (nw jz)))), (qr, .inl (dA 3, 2640, .inl (fun jz => zI (er jz))))]) (wr := []) C hP hD hS hA [0, 1, 2] [] rfl rfl (by decide) (by decide) (by decide) (k_X9_marksU l D dA (a) (v0) (v1) (v2) (v3) (v4) (v5) (v6) (v7) (v8) (v9) (v10) (v11) (v12) (v13) (v14) (v15) (v16) (v22) (v23) (v24) (v25) (v26) (v33) (v34) (v35) (v36) (v37) (v38) (v39) (v40) (v41) (v42) (v43) (v44) (w) (le) (es) (un) (qn) (qr) (qh) (qi) (ra) (rl) (kn) (nw) (er) (by first | with_reducible assumption | omega | with_reducible rfl) (by first | with_reducible assumption | omega | with_reducible rfl)) (lw_V q2135 q2137 qs83 q124 q2138) (by decide +kernel) rfl ⟨Nat.le_of_ble_eq_true rfl, Nat.le_of_ble_eq_true rfl⟩ hl.1 0 rfl rfl rfl (Nat.le_of_ble_eq_true rfl) dX9_tie_43 (by decide) (by decide) (fun _ H locs hp_43 hP hD hS _ => ?_)
          have hP := hP.sub (ws' := [(a, .inr (9, [v0, v1, v2, v3, v4, v5, v6, v7, v8, v9, v10, v11, v12, v13, v14, v15, v16, .int (zI ((w : Nat) : Int)), .int (zI ((le : Nat) : Int)), .int (zB (ra)), .int (zB (rl)), .ref (qn), v22, v23, v24, v25, v26, .ref (qr), .int (zI ((mkE es un : Nat) : Int)), .int (zI ((mkU un : Nat) : Int)), .ref (qh), .ref (qi), .int (zB (kn)), v33, v34, v35, v36, v37, v38, v39, v40, v41, v42, v43, v44])), (qn, .inl (dA 3, 66, .inl (fun jz => zI (nw jz)))), (qr, .inl (dA 3, 2640, .inl (fun jz => zI ((cpN er (fun i => mkA es un + i) nw (fun i => i) 66) jz))))]) [0, 1, 2] rfl
          have hD := hD.sub (ws' := [(a, .inr (9, [v0, v1, v2, v3, v4, v5, v6, v7, v8, v9, v10, v11, v12, v13, v14, v15, v16, .int (zI ((w : Nat) : Int)), .int (zI ((le : Nat) : Int)), .int (zB (ra)), .int (zB (rl)), .ref (qn), v22, v23, v24, v25, v26, .ref (qr), .int (zI ((mkE es un : Nat) : Int)), .int (zI ((mkU un : Nat) : Int)), .ref (qh), .ref (qi), .int (zB (kn)), v33, v34, v35, v36, v37, v38, v39, v40, v41, v42, v43, v44])), (qn, .inl (dA 3, 66, .inl (fun jz => zI (nw jz)))), (qr, .inl (dA 3, 2640, .inl (fun jz => zI ((cpN er (fun i => mkA es un + i) nw (fun i => i) 66) jz))))]) [0, 1, 2] (by decide) rfl
          refine W.widen (k := 0) (n := 0) (Nat.le_of_ble_eq_true rfl) (Nat.le_of_ble_eq_true rfl) ?_
          refine lv_aload_n hx hb dX9_tie_46 rfl (lv_at hl 0 rfl) ?_
          refine z_get C hP 0 rfl rfl in_X9 21 (by decide) q1905 rfl dX9_tie_47 ?_
          refine lv_iload_n hx hb dX9_tie_50 rfl (lv_at hl 2 rfl) ?_
          refine z_if_eqB (tgt := 59) C dX9_tie_51 (by decide) (fun c_51 => ?_) (fun c_51 => ?_)
          · exact absurd c_51 (by decide)
          · refine z_bipush C dX9_tie_54 rfl ?_
            refine lv_goto (tgt := 60) hx hb dX9_tie_56 (by decide) ?_
            refine lv_iload_n hx hb dX9_tie_60 rfl (lv_at hl 1 rfl) ?_
            refine z_iaddN C (16) (k) rfl rfl dX9_tie_61 ?_
            refine lv_iload_n hx hb dX9_tie_62 rfl (lv_at hl 3 rfl) ?_
            refine z_iast C hP hD hS 1 rfl ((16 + k)) rfl (by omega) (by decide) (v := (j)) (ws' := [(a, .inr (9, [v0, v1, v2, v3, v4, v5, v6, v7, v8, v9, v10, v11, v12, v13, v14, v15, v16, .int (zI ((w : Nat) : Int)), .int (zI ((le : Nat) : Int)), .int (zB (ra)), .int (zB (rl)), .ref (qn), v22, v23, v24, v25, v26, .ref (qr), .int (zI ((mkE es un : Nat) : Int)), .int (zI ((mkU un : Nat) : Int)), .ref (qh), .ref (qi), .int (zB (kn)), v33, v34, v35, v36, v37, v38, v39, v40, v41, v42, v43, v44])), (qn, .inl (dA 3, 66, .inl (fun jz => zI ((va_up nw (16 + k) (j)) jz)))), (qr, .inl (dA 3, 2640, .inl (fun jz => zI ((cpN er (fun i => mkA es un + i) nw (fun i => i) 66) jz))))]) rfl dX9_tie_63 (fun H locs hP hD hS => ?_)
            refine lv_aload_n hx hb dX9_tie_64 rfl (lv_at hl 0 rfl) ?_
            refine z_iconst C dX9_tie_65 ?_
            refine z_put C hP hD hS 0 rfl rfl in_X9 tyX9_ok nmX9 32 (by decide) q1916 rfl (v := .int (zB (false))) (zB_nar _) rfl (Nat.le_of_ble_eq_true rfl) (ws' := [(a, .inr (9, [v0, v1, v2, v3, v4, v5, v6, v7, v8, v9, v10, v11, v12, v13, v14, v15, v16, .int (zI ((w : Nat) : Int)), .int (zI ((le : Nat) : Int)), .int (zB (ra)), .int (zB (rl)), .ref (qn), v22, v23, v24, v25, v26, .ref (qr), .int (zI ((mkE es un : Nat) : Int)), .int (zI ((mkU un : Nat) : Int)), .ref (qh), .ref (qi), .int (zB (false)), v33, v34, v35, v36, v37, v38, v39, v40, v41, v42, v43, v44])), (qn, .inl (dA 3, 66, .inl (fun jz => zI ((va_up nw (16 + k) (j)) jz)))), (qr, .inl (dA 3, 2640, .inl (fun jz => zI ((cpN er (fun i => mkA es un + i) nw (fun i => i) 66) jz))))]) rfl dX9_tie_66 (fun H locs hP hD hS => ?_)
            refine z_iconst C dX9_tie_69 ?_
            exact z_zretG (a := true) C hlk hr hQ () rfl trivial (hP.sub [0, 1, 2] rfl) (hD.sub [0, 1, 2] (by decide) rfl) hS (Nat.le_of_ble_eq_true rfl) (Nat.le_of_ble_eq_true rfl) dX9_tie_70
        · exact absurd c_37 hp
set_option maxHeartbeats 600000 in
set_option maxRecDepth 100000 in
theorem k_X9_tie_false (l : Launch) (D : va_G) (dA : Nat → ClassId) (a : Nat) (v0 v1 v2 v3 v4 v5 v6 v7 v8 v9 v10 v11 v12 v13 v14 v15 v16 v22 v23 v24 v25 v26 v33 v34 v35 v36 v37 v38 v39 v40 v41 v42 v43 v44 : Value) (w le es un qn qr qh qi : Nat) (ra rl kn : Bool) (nw er : Nat → Int) (k : Nat) (j : Int) (hwl : w * le ≤ 16) (hes : es < 40) (hun : un ≤ 40) (hk : k < w * le) (bo : ∀ j, -1000000 ≤ nw j ∧ nw j ≤ 1000000) (hj : -3 ≤ j ∧ j ≤ 3) (ho : 0 ≤ oth w le (rgOf ra rl) k false) (hp : nw (k) ≠ j) : zG (S := Unit) l yX9_tie cX9_tie 4 (some .boolean) (zRmW 2 48 0 0) D dA [.ref (a), .int (zI ((k : Nat) : Int)), .int (zB (false)), .int (zI (j))] [(a, .inr (9, [v0, v1, v2, v3, v4, v5, v6, v7, v8, v9, v10, v11, v12, v13, v14, v15, v16, .int (zI ((w : Nat) : Int)), .int (zI ((le : Nat) : Int)), .int (zB (ra)), .int (zB (rl)), .ref (qn), v22, v23, v24, v25, v26, .ref (qr), .int (zI ((es : Nat) : Int)), .int (zI ((un : Nat) : Int)), .ref (qh), .ref (qi), .int (zB (kn)), v33, v34, v35, v36, v37, v38, v39, v40, v41, v42, v43, v44])), (qn, .inl (dA 3, 66, .inl (fun jz => zI (nw jz)))), (qr, .inl (dA 3, 2640, .inl (fun jz => zI (er jz))))] (fun _ : Unit => some (.int (zB (true)))) (fun _ : Unit => True) (fun _ : Unit => [(a, .inr (9, [v0, v1, v2, v3, v4, v5, v6, v7, v8, v9, v10, v11, v12, v13, v14, v15, v16, .int (zI ((w : Nat) : Int)), .int (zI ((le : Nat) : Int)), .int (zB (ra)), .int (zB (rl)), .ref (qn), v22, v23, v24, v25, v26, .ref (qr), .int (zI ((mkE es un : Nat) : Int)), .int (zI ((mkU un : Nat) : Int)), .ref (qh), .ref (qi), .int (zB (false)), v33, v34, v35, v36, v37, v38, v39, v40, v41, v42, v43, v44])), (qn, .inl (dA 3, 66, .inl (fun jz => zI ((va_up nw (k) j) jz)))), (qr, .inl (dA 3, 2640, .inl (fun jz => zI ((cpN er (fun i => mkA es un + i) nw (fun i => i) 66) jz))))]) := by
  refine zG.of (by decide +kernel) rfl ?_
  intro pp ee ss mm args below meth cd Q A C hr hlk hQ hA hin H locs hP hD hS ls hl
  have hx := C.1.1
  have hb := C.1.2.1
  have hl : lv_has ls 4 [(0, .ref (a)), (1, .int (zI ((k : Nat) : Int))), (2, .int (zB (false))), (3, .int (zI (j)))] := hl
  have o9 := oth_lt (rgOf ra rl) false hk
  have bj := bo (k)
  refine lv_aload_n hx hb dX9_tie_0 rfl (lv_at hl 0 rfl) ?_
  refine lv_iload_n hx hb dX9_tie_1 rfl (lv_at hl 1 rfl) ?_
  refine z_cV (n := 1) (As := [.int (zI ((k : Nat) : Int))]) (rest := []) C hP (k_X9_isSite l D dA (a) (v0) (v1) (v2) (v3) (v4) (v5) (v6) (v7) (v8) (v9) (v10) (v11) (v12) (v13) (v14) (v15) (v16) (v22) (v23) (v24) (v25) (v26) (.ref (qr)) (.int (zI ((es : Nat) : Int))) (.int (zI ((un : Nat) : Int))) (.ref (qh)) (.ref (qi)) (.int (zB (kn))) (v33) (v34) (v35) (v36) (v37) (v38) (v39) (v40) (v41) (v42) (v43) (v44) (w) (le) (ra) (rl) (qn) (((k : Nat) : Int)) (by first | with_reducible assumption | omega | with_reducible rfl) (by first | with_reducible assumption | omega | with_reducible rfl)) (lw_V q2124 q2126 qs81 q124 q2127) (by decide +kernel) rfl ⟨Nat.le_of_ble_eq_true rfl, Nat.le_of_ble_eq_true rfl⟩ hl.1 (hP.sub [0] rfl) 0 rfl rfl rfl (Nat.le_of_ble_eq_true rfl) dX9_tie_2 (Nat.zero_le _) (Nat.zero_le _) ?_
  refine z_if_eqB (tgt := 40) C dX9_tie_5 (by decide) (fun c_5 => ?_) (fun c_5 => ?_)
  · have c_5 := of_decide_eq_false c_5; exact absurd c_5 (by omega)
  · have c_5 := of_decide_eq_true c_5
    refine lv_iload_n hx hb dX9_tie_8 rfl (lv_at hl 3 rfl) ?_
    refine z_bipush C dX9_tie_9 rfl ?_
    refine z_iconst C dX9_tie_11 ?_
    refine z_cS (n := 3) (As := [.int (zI (j)), .int (zI (-3)), .int (zI 3)]) (rest := []) C (k_X9_in l D dA ((j)) ((-3)) (3) (by first | with_reducible assumption | omega | with_reducible rfl) (by first | with_reducible assumption | omega | with_reducible rfl) (by first | with_reducible assumption | omega | with_reducible rfl)) (lw_S q2090 q2091 q124 q2092) (by decide +kernel) rfl ⟨Nat.le_of_ble_eq_true rfl, Nat.le_of_ble_eq_true rfl⟩ hl.1 (hP.sub [] rfl) rfl (Nat.le_of_ble_eq_true rfl) dX9_tie_12 (Nat.zero_le _) (Nat.zero_le _) ?_
    refine z_if_eqB (tgt := 40) C dX9_tie_15 (by decide) (fun c_15 => ?_) (fun c_15 => ?_)
    · have c_15 := of_decide_eq_false c_15; exact absurd c_15 (by omega)
    · have c_15 := of_decide_eq_true c_15
      refine lv_aload_n hx hb dX9_tie_18 rfl (lv_at hl 0 rfl) ?_
      refine lv_iload_n hx hb dX9_tie_19 rfl (lv_at hl 1 rfl) ?_
      refine lv_iload_n hx hb dX9_tie_20 rfl (lv_at hl 2 rfl) ?_
      refine z_cV (n := 2) (As := [.int (zI ((k : Nat) : Int)), .int (zB (false))]) (rest := []) C hP (k_X9_tieTo l D dA (a) (v0) (v1) (v2) (v3) (v4) (v5) (v6) (v7) (v8) (v9) (v10) (v11) (v12) (v13) (v14) (v15) (v16) (v22) (v23) (v24) (v25) (v26) (.ref (qr)) (.int (zI ((es : Nat) : Int))) (.int (zI ((un : Nat) : Int))) (.ref (qh)) (.ref (qi)) (.int (zB (kn))) (v33) (v34) (v35) (v36) (v37) (v38) (v39) (v40) (v41) (v42) (v43) (v44) (w) (le) (ra) (rl) (qn) (k) (false) (by first | with_reducible assumption | omega | with_reducible rfl) (by first | with_reducible assumption | omega | with_reducible rfl)) (lw_V q2128 q2130 qs82 q124 q2131) (by decide +kernel) rfl ⟨Nat.le_of_ble_eq_true rfl, Nat.le_of_ble_eq_true rfl⟩ hl.1 (hP.sub [0] rfl) 0 rfl rfl rfl (Nat.le_of_ble_eq_true rfl) dX9_tie_21 (Nat.zero_le _) (Nat.zero_le _) ?_
      refine z_if_lt (tgt := 40) C ⟨by omega, by omega⟩ dX9_tie_24 (by decide) (fun c_24 => ?_) (fun c_24 => ?_)
      · exact absurd c_24 (by omega)
      · refine lv_aload_n hx hb dX9_tie_27 rfl (lv_at hl 0 rfl) ?_
        refine z_get C hP 0 rfl rfl in_X9 21 (by decide) q1905 rfl dX9_tie_28 ?_
        refine lv_iload_n hx hb dX9_tie_31 rfl (lv_at hl 1 rfl) ?_
        refine lv_iload_n hx hb dX9_tie_32 rfl (lv_at hl 2 rfl) ?_
        refine z_cS (n := 3) (As := [.ref (qn), .int (zI ((k : Nat) : Int)), .int (zB (false))]) (rest := []) C (k_X9_jOf l D dA (qn) (nw) (k) (false) (by first | with_reducible assumption | omega | with_reducible rfl)) (lw_S q2132 q2133 q124 q2134) (by decide +kernel) rfl ⟨Nat.le_of_ble_eq_true rfl, Nat.le_of_ble_eq_true rfl⟩ hl.1 (hP.sub [1] rfl) rfl (Nat.le_of_ble_eq_true rfl) dX9_tie_33 (Nat.zero_le _) (Nat.zero_le _) ?_
        rw [show jw nw (fun j => nw (16 + j)) k false = nw (k) from rfl]
        refine lv_iload_n hx hb dX9_tie_36 rfl (lv_at hl 3 rfl) ?_
        refine z_icmp_ne (tgt := 42) C ⟨by omega, by omega⟩ ⟨by omega, by omega⟩ dX9_tie_37 (by decide) (fun c_37 => ?_) (fun c_37 => ?_)
        · refine lv_aload_n hx hb dX9_tie_42 rfl (lv_at hl 0 rfl) ?_
          refine z_gV (n := 0) (As := []) (rest := []) (wc := [(a, .inr (9, [v0, v1, v2, v3, v4, v5, v6, v7, v8, v9, v10, v11, v12, v13, v14, v15, v16, .int (zI ((w : Nat) : Int)), .int (zI ((le : Nat) : Int)), .int (zB (ra)), .int (zB (rl)), .ref (qn), v22, v23, v24, v25, v26, .ref (qr), .int (zI ((es : Nat) : Int)), .int (zI ((un : Nat) : Int)), .ref (qh), .ref (qi), .int (zB (kn)), v33, v34, v35, v36, v37, v38, v39, v40, v41, v42, v43, v44])), (qn, .inl (dA 3, 66, .inl (fun jz => zI (nw jz)))), (qr, .inl (dA 3, 2640, .inl (fun jz => zI (er jz))))]) (wr := []) C hP hD hS hA [0, 1, 2] [] rfl rfl (by decide) (by decide) (by decide) (k_X9_marksU l D dA (a) (v0) (v1) (v2) (v3) (v4) (v5) (v6) (v7) (v8) (v9) (v10) (v11) (v12) (v13) (v14) (v15) (v16) (v22) (v23) (v24) (v25) (v26) (v33) (v34) (v35) (v36) (v37) (v38) (v39) (v40) (v41) (v42) (v43) (v44) (w) (le) (es) (un) (qn) (qr) (qh) (qi) (ra) (rl) (kn) (nw) (er) (by first | with_reducible assumption | omega | with_reducible rfl) (by first | with_reducible assumption | omega | with_reducible rfl)) (lw_V q2135 q2137 qs83 q124 q2138) (by decide +kernel) rfl ⟨Nat.le_of_ble_eq_true rfl, Nat.le_of_ble_eq_true rfl⟩ hl.1 0 rfl rfl rfl (Nat.le_of_ble_eq_true rfl) dX9_tie_43 (by decide) (by decide) (fun _ H locs hp_43 hP hD hS _ => ?_)
          have hP := hP.sub (ws' := [(a, .inr (9, [v0, v1, v2, v3, v4, v5, v6, v7, v8, v9, v10, v11, v12, v13, v14, v15, v16, .int (zI ((w : Nat) : Int)), .int (zI ((le : Nat) : Int)), .int (zB (ra)), .int (zB (rl)), .ref (qn), v22, v23, v24, v25, v26, .ref (qr), .int (zI ((mkE es un : Nat) : Int)), .int (zI ((mkU un : Nat) : Int)), .ref (qh), .ref (qi), .int (zB (kn)), v33, v34, v35, v36, v37, v38, v39, v40, v41, v42, v43, v44])), (qn, .inl (dA 3, 66, .inl (fun jz => zI (nw jz)))), (qr, .inl (dA 3, 2640, .inl (fun jz => zI ((cpN er (fun i => mkA es un + i) nw (fun i => i) 66) jz))))]) [0, 1, 2] rfl
          have hD := hD.sub (ws' := [(a, .inr (9, [v0, v1, v2, v3, v4, v5, v6, v7, v8, v9, v10, v11, v12, v13, v14, v15, v16, .int (zI ((w : Nat) : Int)), .int (zI ((le : Nat) : Int)), .int (zB (ra)), .int (zB (rl)), .ref (qn), v22, v23, v24, v25, v26, .ref (qr), .int (zI ((mkE es un : Nat) : Int)), .int (zI ((mkU un : Nat) : Int)), .ref (qh), .ref (qi), .int (zB (kn)), v33, v34, v35, v36, v37, v38, v39, v40, v41, v42, v43, v44])), (qn, .inl (dA 3, 66, .inl (fun jz => zI (nw jz)))), (qr, .inl (dA 3, 2640, .inl (fun jz => zI ((cpN er (fun i => mkA es un + i) nw (fun i => i) 66) jz))))]) [0, 1, 2] (by decide) rfl
          refine W.widen (k := 0) (n := 0) (Nat.le_of_ble_eq_true rfl) (Nat.le_of_ble_eq_true rfl) ?_
          refine lv_aload_n hx hb dX9_tie_46 rfl (lv_at hl 0 rfl) ?_
          refine z_get C hP 0 rfl rfl in_X9 21 (by decide) q1905 rfl dX9_tie_47 ?_
          refine lv_iload_n hx hb dX9_tie_50 rfl (lv_at hl 2 rfl) ?_
          refine z_if_eqB (tgt := 59) C dX9_tie_51 (by decide) (fun c_51 => ?_) (fun c_51 => ?_)
          · refine z_iconst C dX9_tie_59 ?_
            refine lv_iload_n hx hb dX9_tie_60 rfl (lv_at hl 1 rfl) ?_
            refine z_iadd0 C dX9_tie_61 ?_
            refine lv_iload_n hx hb dX9_tie_62 rfl (lv_at hl 3 rfl) ?_
            refine z_iast C hP hD hS 1 rfl (k) rfl (by omega) (by decide) (v := (j)) (ws' := [(a, .inr (9, [v0, v1, v2, v3, v4, v5, v6, v7, v8, v9, v10, v11, v12, v13, v14, v15, v16, .int (zI ((w : Nat) : Int)), .int (zI ((le : Nat) : Int)), .int (zB (ra)), .int (zB (rl)), .ref (qn), v22, v23, v24, v25, v26, .ref (qr), .int (zI ((mkE es un : Nat) : Int)), .int (zI ((mkU un : Nat) : Int)), .ref (qh), .ref (qi), .int (zB (kn)), v33, v34, v35, v36, v37, v38, v39, v40, v41, v42, v43, v44])), (qn, .inl (dA 3, 66, .inl (fun jz => zI ((va_up nw k (j)) jz)))), (qr, .inl (dA 3, 2640, .inl (fun jz => zI ((cpN er (fun i => mkA es un + i) nw (fun i => i) 66) jz))))]) rfl dX9_tie_63 (fun H locs hP hD hS => ?_)
            refine lv_aload_n hx hb dX9_tie_64 rfl (lv_at hl 0 rfl) ?_
            refine z_iconst C dX9_tie_65 ?_
            refine z_put C hP hD hS 0 rfl rfl in_X9 tyX9_ok nmX9 32 (by decide) q1916 rfl (v := .int (zB (false))) (zB_nar _) rfl (Nat.le_of_ble_eq_true rfl) (ws' := [(a, .inr (9, [v0, v1, v2, v3, v4, v5, v6, v7, v8, v9, v10, v11, v12, v13, v14, v15, v16, .int (zI ((w : Nat) : Int)), .int (zI ((le : Nat) : Int)), .int (zB (ra)), .int (zB (rl)), .ref (qn), v22, v23, v24, v25, v26, .ref (qr), .int (zI ((mkE es un : Nat) : Int)), .int (zI ((mkU un : Nat) : Int)), .ref (qh), .ref (qi), .int (zB (false)), v33, v34, v35, v36, v37, v38, v39, v40, v41, v42, v43, v44])), (qn, .inl (dA 3, 66, .inl (fun jz => zI ((va_up nw k (j)) jz)))), (qr, .inl (dA 3, 2640, .inl (fun jz => zI ((cpN er (fun i => mkA es un + i) nw (fun i => i) 66) jz))))]) rfl dX9_tie_66 (fun H locs hP hD hS => ?_)
            refine z_iconst C dX9_tie_69 ?_
            exact z_zretG (a := true) C hlk hr hQ () rfl trivial (hP.sub [0, 1, 2] rfl) (hD.sub [0, 1, 2] (by decide) rfl) hS (Nat.le_of_ble_eq_true rfl) (Nat.le_of_ble_eq_true rfl) dX9_tie_70
          · exact absurd c_51 (by decide)
        · exact absurd c_37 hp
set_option maxHeartbeats 600000 in
set_option maxRecDepth 100000 in
theorem k_X9_tie_no (l : Launch) (D : va_G) (dA : Nat → ClassId) (a : Nat) (v0 v1 v2 v3 v4 v5 v6 v7 v8 v9 v10 v11 v12 v13 v14 v15 v16 v22 v23 v24 v25 v26 v33 v34 v35 v36 v37 v38 v39 v40 v41 v42 v43 v44 : Value) (w le es un qn qr qh qi : Nat) (ra rl kn : Bool) (nw : Nat → Int) (k j : Int) (al : Bool) (hwl : w * le ≤ 16) (bo : ∀ j, -1000000 ≤ nw j ∧ nw j ≤ 1000000) (hz : zR k) (hzj : zR j) (hno : ¬ (0 ≤ k ∧ k < ((w * le : Nat) : Int)) ∨ ¬ (-3 ≤ j ∧ j ≤ 3) ∨ oth w le (rgOf ra rl) k.toNat al < 0 ∨ jw nw (fun j => nw (16 + j)) k.toNat al = j) : zM l yX9_tie cX9_tie 4 (some .boolean) (zRm 2 48) D dA [.ref (a), .int (zI (k)), .int (zB (al)), .int (zI (j))] [(a, .inr (9, [v0, v1, v2, v3, v4, v5, v6, v7, v8, v9, v10, v11, v12, v13, v14, v15, v16, .int (zI ((w : Nat) : Int)), .int (zI ((le : Nat) : Int)), .int (zB (ra)), .int (zB (rl)), .ref (qn), v22, v23, v24, v25, v26, .ref (qr), .int (zI ((es : Nat) : Int)), .int (zI ((un : Nat) : Int)), .ref (qh), .ref (qi), .int (zB (kn)), v33, v34, v35, v36, v37, v38, v39, v40, v41, v42, v43, v44])), (qn, .inl (dA 3, 66, .inl (fun jz => zI (nw jz))))] (some (.int (zB (false)))) := by
  refine zM.of (by decide +kernel) rfl ?_
  intro pp ee ss mm args below meth cd Q C hr hlk hQ hP ls hl
  have hx := C.1.1
  have hb := C.1.2.1
  have hl : lv_has ls 4 [(0, .ref (a)), (1, .int (zI (k))), (2, .int (zB (al))), (3, .int (zI (j)))] := hl
  refine lv_aload_n hx hb dX9_tie_0 rfl (lv_at hl 0 rfl) ?_
  refine lv_iload_n hx hb dX9_tie_1 rfl (lv_at hl 1 rfl) ?_
  refine z_cV (n := 1) (As := [.int (zI (k))]) (rest := []) C hP (k_X9_isSite l D dA (a) (v0) (v1) (v2) (v3) (v4) (v5) (v6) (v7) (v8) (v9) (v10) (v11) (v12) (v13) (v14) (v15) (v16) (v22) (v23) (v24) (v25) (v26) (.ref (qr)) (.int (zI ((es : Nat) : Int))) (.int (zI ((un : Nat) : Int))) (.ref (qh)) (.ref (qi)) (.int (zB (kn))) (v33) (v34) (v35) (v36) (v37) (v38) (v39) (v40) (v41) (v42) (v43) (v44) (w) (le) (ra) (rl) (qn) ((k)) (by first | with_reducible assumption | omega | with_reducible rfl) (by first | with_reducible assumption | omega | with_reducible rfl)) (lw_V q2124 q2126 qs81 q124 q2127) (by decide +kernel) rfl ⟨Nat.le_of_ble_eq_true rfl, Nat.le_of_ble_eq_true rfl⟩ hl.1 (hP.sub [0] rfl) 0 rfl rfl rfl (Nat.le_of_ble_eq_true rfl) dX9_tie_2 (Nat.zero_le _) (Nat.zero_le _) ?_
  refine z_if_eqB (tgt := 40) C dX9_tie_5 (by decide) (fun c_5 => ?_) (fun c_5 => ?_)
  · have c_5 := of_decide_eq_false c_5
    refine z_iconst C dX9_tie_40 ?_
    exact z_zret0 C hlk hr hQ rfl dX9_tie_41
  · have c_5 := of_decide_eq_true c_5
    refine lv_iload_n hx hb dX9_tie_8 rfl (lv_at hl 3 rfl) ?_
    refine z_bipush C dX9_tie_9 rfl ?_
    refine z_iconst C dX9_tie_11 ?_
    refine z_cS (n := 3) (As := [.int (zI (j)), .int (zI (-3)), .int (zI 3)]) (rest := []) C (k_X9_in l D dA ((j)) ((-3)) (3) (by first | with_reducible assumption | omega | with_reducible rfl) (by first | with_reducible assumption | omega | with_reducible rfl) (by first | with_reducible assumption | omega | with_reducible rfl)) (lw_S q2090 q2091 q124 q2092) (by decide +kernel) rfl ⟨Nat.le_of_ble_eq_true rfl, Nat.le_of_ble_eq_true rfl⟩ hl.1 (hP.sub [] rfl) rfl (Nat.le_of_ble_eq_true rfl) dX9_tie_12 (Nat.zero_le _) (Nat.zero_le _) ?_
    refine z_if_eqB (tgt := 40) C dX9_tie_15 (by decide) (fun c_15 => ?_) (fun c_15 => ?_)
    · have c_15 := of_decide_eq_false c_15
      refine z_iconst C dX9_tie_40 ?_
      exact z_zret0 C hlk hr hQ rfl dX9_tie_41
    · have c_15 := of_decide_eq_true c_15
      obtain ⟨kq, rfl⟩ : ∃ q : Nat, k = (q : Int) := ⟨k.toNat, by omega⟩
      have bj := jw_big bo kq al
      rw [Int.toNat_natCast] at hno
      have o9 := oth_lt (rgOf ra rl) al (show kq < w * le by omega)
      refine lv_aload_n hx hb dX9_tie_18 rfl (lv_at hl 0 rfl) ?_
      refine lv_iload_n hx hb dX9_tie_19 rfl (lv_at hl 1 rfl) ?_
      refine lv_iload_n hx hb dX9_tie_20 rfl (lv_at hl 2 rfl) ?_
      refine z_cV (n := 2) (As := [.int (zI ((kq : Nat) : Int)), .int (zB (al))]) (rest := []) C hP (k_X9_tieTo l D dA (a) (v0) (v1) (v2) (v3) (v4) (v5) (v6) (v7) (v8) (v9) (v10) (v11) (v12) (v13) (v14) (v15) (v16) (v22) (v23) (v24) (v25) (v26) (.ref (qr)) (.int (zI ((es : Nat) : Int))) (.int (zI ((un : Nat) : Int))) (.ref (qh)) (.ref (qi)) (.int (zB (kn))) (v33) (v34) (v35) (v36) (v37) (v38) (v39) (v40) (v41) (v42) (v43) (v44) (w) (le) (ra) (rl) (qn) (kq) (al) (by first | with_reducible assumption | omega | with_reducible rfl) (by first | with_reducible assumption | omega | with_reducible rfl)) (lw_V q2128 q2130 qs82 q124 q2131) (by decide +kernel) rfl ⟨Nat.le_of_ble_eq_true rfl, Nat.le_of_ble_eq_true rfl⟩ hl.1 (hP.sub [0] rfl) 0 rfl rfl rfl (Nat.le_of_ble_eq_true rfl) dX9_tie_21 (Nat.zero_le _) (Nat.zero_le _) ?_
      refine z_if_lt (tgt := 40) C ⟨by omega, by omega⟩ dX9_tie_24 (by decide) (fun c_24 => ?_) (fun c_24 => ?_)
      · refine z_iconst C dX9_tie_40 ?_
        exact z_zret0 C hlk hr hQ rfl dX9_tie_41
      · refine lv_aload_n hx hb dX9_tie_27 rfl (lv_at hl 0 rfl) ?_
        refine z_get C hP 0 rfl rfl in_X9 21 (by decide) q1905 rfl dX9_tie_28 ?_
        refine lv_iload_n hx hb dX9_tie_31 rfl (lv_at hl 1 rfl) ?_
        refine lv_iload_n hx hb dX9_tie_32 rfl (lv_at hl 2 rfl) ?_
        refine z_cS (n := 3) (As := [.ref (qn), .int (zI ((kq : Nat) : Int)), .int (zB (al))]) (rest := []) C (k_X9_jOf l D dA (qn) (nw) (kq) (al) (by first | with_reducible assumption | omega | with_reducible rfl)) (lw_S q2132 q2133 q124 q2134) (by decide +kernel) rfl ⟨Nat.le_of_ble_eq_true rfl, Nat.le_of_ble_eq_true rfl⟩ hl.1 (hP.sub [1] rfl) rfl (Nat.le_of_ble_eq_true rfl) dX9_tie_33 (Nat.zero_le _) (Nat.zero_le _) ?_
        refine lv_iload_n hx hb dX9_tie_36 rfl (lv_at hl 3 rfl) ?_
        refine z_icmp_ne (tgt := 42) C ⟨by omega, by omega⟩ ⟨by omega, by omega⟩ dX9_tie_37 (by decide) (fun c_37 => ?_) (fun c_37 => ?_)
        · exact absurd hno (by omega)
        · refine z_iconst C dX9_tie_40 ?_
          exact z_zret0 C hlk hr hQ rfl dX9_tie_41
