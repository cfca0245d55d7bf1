set_option maxHeartbeats 600000 in
set_option maxRecDepth 100000 in
theorem k_X5_end (l : Launch) (D : va_G) (dA : Nat → ClassId) (a sp w le rg st sd qa ql qf up dn qe : Nat) (x1 x2 x3 x4 x5 : Value) (lst : Int) (ef : Nat → Int) (x : Nat) (hwl : w * le ≤ 16) (hu : up < 65536) (hd : dn < 65536) (be : ∀ j, -1000 ≤ ef j ∧ ef j ≤ 1000) (hxx : x < 2 ^ (w * le)) : zM l yX5_end cX5_end 4 (some .int) (zRm 3 66) D dA [.ref (a), .int (zI ((x : Nat) : Int))] [(a, .inr (5, [.ref (sp), .ref (qe), x1, x2, x3, x4, .int (zI (lst)), x5])), (sp, .inr (4, [.int (zI ((w : Nat) : Int)), .int (zI ((le : Nat) : Int)), .int (zI ((rg : Nat) : Int)), .int (zI ((st : Nat) : Int)), .int (zI ((sd : Nat) : Int)), .ref (qa), .ref (ql), .ref (qf), .int (zI ((up : Nat) : Int)), .int (zI ((dn : Nat) : Int))])), (qe, .inl (dA 2, 65536, .inl (fun jz => zI (ef jz))))] (some (.int (zI ((ceN ef (fun k => (up ||| dn).testBit k) (w * le) 2002 x : Nat) : Int)))) := by
  refine zM.of (by decide +kernel) rfl ?_
  intro pp ee ss mm args below meth cd Q C hr hlk hQ hP ls hl
  have hx := C.1.1
  have hb := C.1.2.1
  have hl : lv_has ls 4 [(0, .ref (a)), (1, .int (zI ((x : Nat) : Int)))] := hl
  have hp16 : 2 ^ (w * le) ≤ 2 ^ 16 := Nat.pow_le_pow_right (by decide) hwl
  refine lv_iload_n hx hb dX5_end_0 rfl (lv_at hl 1 rfl) ?_
  refine lv_istore_n (lv' := [(2, .int (zI ((x : Nat) : Int))), (0, .ref (a)), (1, .int (zI ((x : Nat) : Int)))]) hx hb dX5_end_1 rfl hl (by decide) rfl (fun ls hl => ?_)
  refine lv_aload_n hx hb dX5_end_2 rfl (lv_at hl 1 rfl) ?_
  refine lv_iload_n hx hb dX5_end_3 rfl (lv_at hl 0 rfl) ?_
  refine z_cV (n := 1) (As := [.int (zI ((x : Nat) : Int))]) (rest := []) C hP (k_X5_falls l D dA (a) (sp) (w) (le) (rg) (st) (sd) (qa) (ql) (qf) (up) (dn) (qe) (x1) (x2) (x3) (x4) (x5) ((lst)) (ef) (x) (by first | with_reducible assumption | omega | with_reducible rfl) (by first | with_reducible assumption | omega | with_reducible rfl) (by first | with_reducible assumption | omega | with_reducible rfl) (by first | with_reducible assumption | omega | with_reducible rfl) (by first | with_reducible assumption | omega | with_reducible rfl)) (lw_V q1553 q1377 q1378 q116 q1379) (by decide +kernel) rfl ⟨Nat.le_of_ble_eq_true rfl, Nat.le_of_ble_eq_true rfl⟩ hl.1 (hP.sub [0, 1, 2] rfl) 0 rfl rfl rfl (Nat.le_of_ble_eq_true rfl) dX5_end_4 (Nat.zero_le _) (Nat.zero_le _) ?_
  refine z_nm (fun kv_1 e_kv_1 => ?_)
  have cb9 := cfN_b ef (fun k => (up ||| dn).testBit k) x (w * le)
  rw [← e_kv_1] at cb9
  refine lv_istore_n (lv' := [(3, .int (zI (kv_1))), (2, .int (zI ((x : Nat) : Int))), (0, .ref (a)), (1, .int (zI ((x : Nat) : Int)))]) hx hb dX5_end_7 rfl hl (by decide) rfl (fun ls hl => ?_)
  have L8 : ∀ (N : Nat) (y f : Nat) (kk : Int), (y < 2 ^ (w * le)) → (kk = cfN ef (fun k => (up ||| dn).testBit k) y (w * le)) → (ceN ef (fun k => (up ||| dn).testBit k) (w * le) 2002 x = ceN ef (fun k => (up ||| dn).testBit k) (w * le) f y) → ((ef y + 1001).toNat ≤ f) → (-1 ≤ kk ∧ kk < ((w * le : Nat) : Int)) → ((ef y + 1001).toNat) < N → ∀ ls : Array Slot, lv_has ls 4 [(0, .ref (a)), (1, .int (zI ((x : Nat) : Int))), (2, .int (zI ((y : Nat) : Int))), (3, .int (zI (kk)))] → W pp l ee (zRm 3 66) ss mm args below meth cd ss.heap [] 0 0 Q (F0 mm 8 ls []) := by
    intro N
    induction N with
    | zero => intro y f kk _ _ _ _ _ hm; exact absurd hm (Nat.not_lt_zero _)
    | succ N ih8 =>
      intro y f kk hyy hkk hfe hfm hkb hmz8 ls hl
      refine lv_iload_n hx hb dX5_end_8 rfl (lv_at hl 3 rfl) ?_
      refine z_if_lt (tgt := 27) C ⟨by omega, by omega⟩ dX5_end_9 (by decide) (fun c_9 => ?_) (fun c_9 => ?_)
      · refine lv_iload_n hx hb dX5_end_27 rfl (lv_at hl 2 rfl) ?_
        exact z_iret C hlk hr hQ (by rw [hfe, ceN_end (by rw [← hkk]; omega)]) dX5_end_28
      · obtain ⟨kn, rfl⟩ : ∃ q : Nat, kk = (q : Int) := ⟨kk.toNat, by omega⟩
        have x9 := x_lt hyy (show kn < w * le by omega)
        have l9 := cfN_low (ef := ef) (pn := (fun k => (up ||| dn).testBit k)) (x := y) (k := w * le) (by rw [← hkk]; omega)
        rw [← hkk, Int.toNat_natCast] at l9
        have b9 := be y
        have b8 := be (y ^^^ 2 ^ kn)
        have st9 := ceN_step (f := f) (show ¬ cfN ef (fun k => (up ||| dn).testBit k) y (w * le) < 0 by rw [← hkk]; omega) (by omega)
        rw [← hkk, Int.toNat_natCast] at st9
        refine lv_iload_n hx hb dX5_end_12 rfl (lv_at hl 2 rfl) ?_
        refine z_iconst C dX5_end_13 ?_
        refine lv_iload_n hx hb dX5_end_14 rfl (lv_at hl 3 rfl) ?_
        refine z_ishl1 C (kn) rfl rfl (by omega) dX5_end_15 ?_
        refine z_ixor C (y) ((2 ^ kn)) rfl rfl dX5_end_16 ?_
        refine lv_istore_n (lv' := [(2, .int (zI (((y ^^^ (2 ^ kn)) : Nat) : Int))), (0, .ref (a)), (1, .int (zI ((x : Nat) : Int))), (3, .int (zI ((kn : Nat) : Int)))]) hx hb dX5_end_17 rfl hl (by decide) rfl (fun ls hl => ?_)
        refine lv_aload_n hx hb dX5_end_18 rfl (lv_at hl 1 rfl) ?_
        refine lv_iload_n hx hb dX5_end_19 rfl (lv_at hl 0 rfl) ?_
        refine z_cV (n := 1) (As := [.int (zI (((y ^^^ (2 ^ kn)) : Nat) : Int))]) (rest := []) C hP (k_X5_falls l D dA (a) (sp) (w) (le) (rg) (st) (sd) (qa) (ql) (qf) (up) (dn) (qe) (x1) (x2) (x3) (x4) (x5) ((lst)) (ef) ((y ^^^ (2 ^ kn))) (by first | with_reducible assumption | omega | with_reducible rfl) (by first | with_reducible assumption | omega | with_reducible rfl) (by first | with_reducible assumption | omega | with_reducible rfl) (by first | with_reducible assumption | omega | with_reducible rfl) (by first | with_reducible assumption | omega | with_reducible rfl)) (lw_V q1553 q1377 q1378 q116 q1379) (by decide +kernel) rfl ⟨Nat.le_of_ble_eq_true rfl, Nat.le_of_ble_eq_true rfl⟩ hl.1 (hP.sub [0, 1, 2] rfl) 0 rfl rfl rfl (Nat.le_of_ble_eq_true rfl) dX5_end_20 (Nat.zero_le _) (Nat.zero_le _) ?_
        refine z_nm (fun kv_2 e_kv_2 => ?_)
        have cb9 := cfN_b ef (fun k => (up ||| dn).testBit k) (y ^^^ 2 ^ kn) (w * le)
        rw [← e_kv_2] at cb9
        refine lv_istore_n (lv' := [(3, .int (zI (kv_2))), (2, .int (zI (((y ^^^ (2 ^ kn)) : Nat) : Int))), (0, .ref (a)), (1, .int (zI ((x : Nat) : Int)))]) hx hb dX5_end_23 rfl hl (by decide) rfl (fun ls hl => ?_)
        refine lv_goto (tgt := 8) hx hb dX5_end_24 (by decide) ?_
        exact ih8 ((y ^^^ (2 ^ kn))) (f - 1) ((kv_2)) (by first | with_reducible assumption | omega | with_reducible rfl) e_kv_2 (by rw [hfe, st9]) (by omega) (by first | with_reducible assumption | omega | with_reducible rfl) (by omega) ls (lv_sub hl [2, 3, 1, 0] rfl)
  exact L8 (((ef x + 1001).toNat) + 1) (x) (2002) ((kv_1)) (by first | with_reducible assumption | omega | with_reducible rfl) e_kv_1 rfl (by have := be x; omega) (by first | with_reducible assumption | omega | with_reducible rfl) (by omega) ls (lv_sub hl [2, 3, 1, 0] rfl)
set_option maxHeartbeats 600000 in
set_option maxRecDepth 100000 in
theorem k_X5_basin (l : Launch) (D : va_G) (dA : Nat → ClassId) (a sp w le rg st sd qa ql qf up dn qe : Nat) (x1 x2 x3 x4 x5 : Value) (lst : Int) (ef : Nat → Int) (x : Int) (hwl : w * le ≤ 16) (hu : up < 65536) (hd : dn < 65536) (be : ∀ j, -1000 ≤ ef j ∧ ef j ≤ 1000) (h1 : zR x) : zM l yX5_basin cX5_basin 4 (some .int) (zRm 4 89) D dA [.ref (a), .int (zI (x))] [(a, .inr (5, [.ref (sp), .ref (qe), x1, x2, x3, x4, .int (zI (lst)), x5])), (sp, .inr (4, [.int (zI ((w : Nat) : Int)), .int (zI ((le : Nat) : Int)), .int (zI ((rg : Nat) : Int)), .int (zI ((st : Nat) : Int)), .int (zI ((sd : Nat) : Int)), .ref (qa), .ref (ql), .ref (qf), .int (zI ((up : Nat) : Int)), .int (zI ((dn : Nat) : Int))])), (qe, .inl (dA 2, 65536, .inl (fun jz => zI (ef jz))))] (some (.int (zI ((cntN (fun s => law1 w le up dn s && decide (((ceN ef (fun k => (up ||| dn).testBit k) (w * le) 2002 s : Nat) : Int) = x)) (nst w le) : Nat) : Int)))) := by
  refine zM.of (by decide +kernel) rfl ?_
  intro pp ee ss mm args below meth cd Q C hr hlk hQ hP ls hl
  have hx := C.1.1
  have hb := C.1.2.1
  have hl : lv_has ls 4 [(0, .ref (a)), (1, .int (zI (x)))] := hl
  have hns : nst w le ≤ 65536 := nst_le hwl
  have hp16 : 2 ^ (w * le) ≤ 2 ^ 16 := Nat.pow_le_pow_right (by decide) hwl
  refine z_iconst C dX5_basin_0 ?_
  refine lv_istore_n (lv' := [(2, .int (zI 0)), (0, .ref (a)), (1, .int (zI (x)))]) hx hb dX5_basin_1 rfl hl (by decide) rfl (fun ls hl => ?_)
  refine z_iconst C dX5_basin_2 ?_
  refine lv_istore_n (lv' := [(3, .int (zI 0)), (2, .int (zI 0)), (0, .ref (a)), (1, .int (zI (x)))]) hx hb dX5_basin_3 rfl hl (by decide) rfl (fun ls hl => ?_)
  have L4 : ∀ (N : Nat) (i nn : Nat), (i ≤ nst w le) → (nn = cntN (fun s => law1 w le up dn s && decide (((ceN ef (fun k => (up ||| dn).testBit k) (w * le) 2002 s : Nat) : Int) = x)) i) → (nn ≤ i) → (nst w le - i) < N → ∀ ls : Array Slot, lv_has ls 4 [(0, .ref (a)), (1, .int (zI (x))), (2, .int (zI ((nn : Nat) : Int))), (3, .int (zI ((i : Nat) : Int)))] → W pp l ee (zRm 4 89) ss mm args below meth cd ss.heap [] 0 0 Q (F0 mm 4 ls []) := by
    intro N
    induction N with
    | zero => intro i nn _ _ _ hm; exact absurd hm (Nat.not_lt_zero _)
    | succ N ih4 =>
      intro i nn hi hs hni hmz4 ls hl
      refine lv_iload_n hx hb dX5_basin_4 rfl (lv_at hl 3 rfl) ?_
      refine lv_aload_n hx hb dX5_basin_5 rfl (lv_at hl 0 rfl) ?_
      refine z_get C hP 0 rfl rfl in_X5 0 (by decide) q415 rfl dX5_basin_6 ?_
      refine z_cV (n := 0) (As := []) (rest := [.int (zI ((i : Nat) : Int))]) C hP (k_X4_states l D dA (sp) (w) (le) (rg) (st) (sd) (qa) (ql) (qf) (up) (dn) (by first | with_reducible assumption | omega | with_reducible rfl)) (lw_V q959 q960 q961 q115 q962) (by decide +kernel) rfl ⟨Nat.le_of_ble_eq_true rfl, Nat.le_of_ble_eq_true rfl⟩ hl.1 (hP.sub [1] rfl) 1 rfl rfl rfl (Nat.le_of_ble_eq_true rfl) dX5_basin_9 (Nat.zero_le _) (Nat.zero_le _) ?_
      refine z_icmp_ge (tgt := 49) C ⟨by omega, by omega⟩ ⟨by omega, by omega⟩ dX5_basin_12 (by decide) (fun c_12 => ?_) (fun c_12 => ?_)
      · refine lv_iload_n hx hb dX5_basin_49 rfl (lv_at hl 2 rfl) ?_
        exact z_iret C hlk hr hQ (by rw [show nst w le = i by omega, hs]) dX5_basin_50
      · have hn9 := nst_pow (show i < nst w le by omega)
        refine lv_iload_n hx hb dX5_basin_15 rfl (lv_at hl 2 rfl) ?_
        refine lv_aload_n hx hb dX5_basin_16 rfl (lv_at hl 0 rfl) ?_
        refine z_get C hP 0 rfl rfl in_X5 0 (by decide) q415 rfl dX5_basin_17 ?_
        refine lv_iload_n hx hb dX5_basin_20 rfl (lv_at hl 3 rfl) ?_
        refine z_cV (n := 1) (As := [.int (zI ((i : Nat) : Int))]) (rest := [.int (zI ((nn : Nat) : Int))]) C hP (k_X4_isLawful l D dA (sp) (w) (le) (rg) (st) (sd) (qa) (ql) (qf) (up) (dn) (((i : Nat) : Int)) (by first | with_reducible assumption | omega | with_reducible rfl) (by first | with_reducible assumption | omega | with_reducible rfl) (by first | with_reducible assumption | omega | with_reducible rfl) (by first | with_reducible assumption | omega | with_reducible rfl)) (lw_V q988 q989 q990 q115 q991) (by decide +kernel) rfl ⟨Nat.le_of_ble_eq_true rfl, Nat.le_of_ble_eq_true rfl⟩ hl.1 (hP.sub [1] rfl) 1 rfl rfl rfl (Nat.le_of_ble_eq_true rfl) dX5_basin_21 (Nat.zero_le _) (Nat.zero_le _) ?_
        refine z_if_eqB (tgt := 40) C dX5_basin_24 (by decide) (fun c_24 => ?_) (fun c_24 => ?_)
        · refine z_iconst C dX5_basin_40 ?_
          refine z_iaddN C (nn) (0) rfl rfl dX5_basin_41 ?_
          refine lv_istore_n (lv' := [(2, .int (zI (((nn + 0) : Nat) : Int))), (0, .ref (a)), (1, .int (zI (x))), (3, .int (zI ((i : Nat) : Int)))]) hx hb dX5_basin_42 rfl hl (by decide) rfl (fun ls hl => ?_)
          refine lv_iinc (v := zI ((i + 1 : Nat) : Int)) (lv' := [(3, .int (zI ((i + 1 : Nat) : Int))), (2, .int (zI (((nn + 0) : Nat) : Int))), (0, .ref (a)), (1, .int (zI (x)))]) hx hb dX5_basin_43 hl (k := 3) rfl (zI_inc (by omega)) (by decide) rfl (fun ls hl => ?_)
          refine lv_goto (tgt := 4) hx hb dX5_basin_46 (by decide) ?_
          exact ih4 (i + 1) ((nn + 0)) (by first | with_reducible assumption | omega | with_reducible rfl) (by rw [lawZ_nat] at c_24; first | (rw [cntN_f (by rw [c_24, Bool.false_and]), hs]; rfl) | (rw [cntN_f (by rw [c_24, decide_eq_false (by omega)]; rfl), hs]; rfl) | rw [cntN_t (by rw [c_24, decide_eq_true (by omega)]; rfl), hs]) (by first | with_reducible assumption | omega | with_reducible rfl) (by omega) ls (lv_sub hl [2, 3, 1, 0] rfl)
        · refine lv_aload_n hx hb dX5_basin_27 rfl (lv_at hl 0 rfl) ?_
          refine lv_iload_n hx hb dX5_basin_28 rfl (lv_at hl 3 rfl) ?_
          refine z_cV (n := 1) (As := [.int (zI ((i : Nat) : Int))]) (rest := [.int (zI ((nn : Nat) : Int))]) C hP (k_X5_end l D dA (a) (sp) (w) (le) (rg) (st) (sd) (qa) (ql) (qf) (up) (dn) (qe) (x1) (x2) (x3) (x4) (x5) ((lst)) (ef) (i) (by first | with_reducible assumption | omega | with_reducible rfl) (by first | with_reducible assumption | omega | with_reducible rfl) (by first | with_reducible assumption | omega | with_reducible rfl) (by first | with_reducible assumption | omega | with_reducible rfl) (by first | with_reducible assumption | omega | with_reducible rfl)) (lw_V q1636 q1638 qs53 q116 q1639) (by decide +kernel) rfl ⟨Nat.le_of_ble_eq_true rfl, Nat.le_of_ble_eq_true rfl⟩ hl.1 (hP.sub [0, 1, 2] rfl) 0 rfl rfl rfl (Nat.le_of_ble_eq_true rfl) dX5_basin_29 (Nat.zero_le _) (Nat.zero_le _) ?_
          refine lv_iload_n hx hb dX5_basin_32 rfl (lv_at hl 1 rfl) ?_
          have ce9 := ceN_lt (ef := ef) (pn := (fun k => (up ||| dn).testBit k)) (m := w * le) 2002 i (by omega)
          refine z_icmp_ne (tgt := 40) C ⟨by omega, by omega⟩ ⟨by omega, by omega⟩ dX5_basin_33 (by decide) (fun c_33 => ?_) (fun c_33 => ?_)
          · refine z_iconst C dX5_basin_40 ?_
            refine z_iaddN C (nn) (0) rfl rfl dX5_basin_41 ?_
            refine lv_istore_n (lv' := [(2, .int (zI (((nn + 0) : Nat) : Int))), (0, .ref (a)), (1, .int (zI (x))), (3, .int (zI ((i : Nat) : Int)))]) hx hb dX5_basin_42 rfl hl (by decide) rfl (fun ls hl => ?_)
            refine lv_iinc (v := zI ((i + 1 : Nat) : Int)) (lv' := [(3, .int (zI ((i + 1 : Nat) : Int))), (2, .int (zI (((nn + 0) : Nat) : Int))), (0, .ref (a)), (1, .int (zI (x)))]) hx hb dX5_basin_43 hl (k := 3) rfl (zI_inc (by omega)) (by decide) rfl (fun ls hl => ?_)
            refine lv_goto (tgt := 4) hx hb dX5_basin_46 (by decide) ?_
            exact ih4 (i + 1) ((nn + 0)) (by first | with_reducible assumption | omega | with_reducible rfl) (by rw [lawZ_nat] at c_24; first | (rw [cntN_f (by rw [c_24, Bool.false_and]), hs]; rfl) | (rw [cntN_f (by rw [c_24, decide_eq_false (by omega)]; rfl), hs]; rfl) | rw [cntN_t (by rw [c_24, decide_eq_true (by omega)]; rfl), hs]) (by first | with_reducible assumption | omega | with_reducible rfl) (by omega) ls (lv_sub hl [2, 3, 1, 0] rfl)
          · refine z_iconst C dX5_basin_36 ?_
            refine lv_goto (tgt := 41) hx hb dX5_basin_37 (by decide) ?_
            refine z_iaddN C (nn) (1) rfl rfl dX5_basin_41 ?_
            refine lv_istore_n (lv' := [(2, .int (zI (((nn + 1) : Nat) : Int))), (0, .ref (a)), (1, .int (zI (x))), (3, .int (zI ((i : Nat) : Int)))]) hx hb dX5_basin_42 rfl hl (by decide) rfl (fun ls hl => ?_)
            refine lv_iinc (v := zI ((i + 1 : Nat) : Int)) (lv' := [(3, .int (zI ((i + 1 : Nat) : Int))), (2, .int (zI (((nn + 1) : Nat) : Int))), (0, .ref (a)), (1, .int (zI (x)))]) hx hb dX5_basin_43 hl (k := 3) rfl (zI_inc (by omega)) (by decide) rfl (fun ls hl => ?_)
            refine lv_goto (tgt := 4) hx hb dX5_basin_46 (by decide) ?_
            exact ih4 (i + 1) ((nn + 1)) (by first | with_reducible assumption | omega | with_reducible rfl) (by rw [lawZ_nat] at c_24; first | (rw [cntN_f (by rw [c_24, Bool.false_and]), hs]; rfl) | (rw [cntN_f (by rw [c_24, decide_eq_false (by omega)]; rfl), hs]; rfl) | rw [cntN_t (by rw [c_24, decide_eq_true (by omega)]; rfl), hs]) (by first | with_reducible assumption | omega | with_reducible rfl) (by omega) ls (lv_sub hl [2, 3, 1, 0] rfl)
  exact L4 ((nst w le - 0) + 1) (0) (0) (by first | with_reducible assumption | omega | with_reducible rfl) rfl (by first | with_reducible assumption | omega | with_reducible rfl) (by omega) ls (lv_sub hl [2, 3, 1, 0] rfl)
set_option maxHeartbeats 600000 in
set_option maxRecDepth 100000 in
theorem k_X5_leastOf (l : Launch) (D : va_G) (dA : Nat → ClassId) (a sp w le rg st sd qa ql qf up dn qe : Nat) (x1 x2 x3 x4 x5 : Value) (lst : Int) (ef : Nat → Int) (k1 k2 : Nat) (al : Bool) (hwl : w * le ≤ 16) (hu : up < 65536) (hd : dn < 65536) (be : ∀ j, -1000 ≤ ef j ∧ ef j ≤ 1000) (h2 : k1 < 16) (h3 : k2 < 16) : zM l yX5_leastOf cX5_leastOf 6 (some .int) (zRm 3 61) D dA [.ref (a), .int (zI ((k1 : Nat) : Int)), .int (zI ((k2 : Nat) : Int)), .int (zB (al))] [(a, .inr (5, [.ref (sp), .ref (qe), x1, x2, x3, x4, .int (zI (lst)), x5])), (sp, .inr (4, [.int (zI ((w : Nat) : Int)), .int (zI ((le : Nat) : Int)), .int (zI ((rg : Nat) : Int)), .int (zI ((st : Nat) : Int)), .int (zI ((sd : Nat) : Int)), .ref (qa), .ref (ql), .ref (qf), .int (zI ((up : Nat) : Int)), .int (zI ((dn : Nat) : Int))])), (qe, .inl (dA 2, 65536, .inl (fun jz => zI (ef jz))))] (some (.int (zI (clN (fun s => law1 w le up dn s && ((s.testBit k1 == s.testBit k2) == al)) ef (nst w le))))) := by
  refine zM.of (by decide +kernel) rfl ?_
  intro pp ee ss mm args below meth cd Q C hr hlk hQ hP ls hl
  have hx := C.1.1
  have hb := C.1.2.1
  have hl : lv_has ls 6 [(0, .ref (a)), (1, .int (zI ((k1 : Nat) : Int))), (2, .int (zI ((k2 : Nat) : Int))), (3, .int (zB (al)))] := hl
  have hns : nst w le ≤ 65536 := nst_le hwl
  refine z_sipush C dX5_leastOf_0 rfl ?_
  refine lv_istore (lv' := [(4, .int (zI 145)), (0, .ref (a)), (1, .int (zI ((k1 : Nat) : Int))), (2, .int (zI ((k2 : Nat) : Int))), (3, .int (zB (al)))]) hx hb dX5_leastOf_3 hl (by decide) rfl (fun ls hl => ?_)
  refine z_iconst C dX5_leastOf_5 ?_
  refine lv_istore (lv' := [(5, .int (zI 0)), (4, .int (zI 145)), (0, .ref (a)), (1, .int (zI ((k1 : Nat) : Int))), (2, .int (zI ((k2 : Nat) : Int))), (3, .int (zB (al)))]) hx hb dX5_leastOf_6 hl (by decide) rfl (fun ls hl => ?_)
  have L8 : ∀ (N : Nat) (i : Nat) (lw : Int), (i ≤ nst w le) → (lw = clN (fun s => law1 w le up dn s && ((s.testBit k1 == s.testBit k2) == al)) ef i) → (nst w le - i) < N → ∀ ls : Array Slot, lv_has ls 6 [(0, .ref (a)), (1, .int (zI ((k1 : Nat) : Int))), (2, .int (zI ((k2 : Nat) : Int))), (3, .int (zB (al))), (4, .int (zI (lw))), (5, .int (zI ((i : Nat) : Int)))] → W pp l ee (zRm 3 61) ss mm args below meth cd ss.heap [] 0 0 Q (F0 mm 8 ls []) := by
    intro N
    induction N with
    | zero => intro i lw _ _ hm; exact absurd hm (Nat.not_lt_zero _)
    | succ N ih8 =>
      intro i lw hi hs hmz8 ls hl
      refine lv_iload hx hb dX5_leastOf_8 (lv_at hl 5 rfl) ?_
      refine lv_aload_n hx hb dX5_leastOf_10 rfl (lv_at hl 0 rfl) ?_
      refine z_get C hP 0 rfl rfl in_X5 0 (by decide) q415 rfl dX5_leastOf_11 ?_
      refine z_cV (n := 0) (As := []) (rest := [.int (zI ((i : Nat) : Int))]) C hP (k_X4_states l D dA (sp) (w) (le) (rg) (st) (sd) (qa) (ql) (qf) (up) (dn) (by first | with_reducible assumption | omega | with_reducible rfl)) (lw_V q959 q960 q961 q115 q962) (by decide +kernel) rfl ⟨Nat.le_of_ble_eq_true rfl, Nat.le_of_ble_eq_true rfl⟩ hl.1 (hP.sub [1] rfl) 1 rfl rfl rfl (Nat.le_of_ble_eq_true rfl) dX5_leastOf_14 (Nat.zero_le _) (Nat.zero_le _) ?_
      refine z_icmp_ge (tgt := 76) C ⟨by omega, by omega⟩ ⟨by omega, by omega⟩ dX5_leastOf_17 (by decide) (fun c_17 => ?_) (fun c_17 => ?_)
      · refine lv_iload hx hb dX5_leastOf_76 (lv_at hl 4 rfl) ?_
        exact z_iret C hlk hr hQ (by rw [show nst w le = i by omega, hs]) dX5_leastOf_78
      · have b9 := be i
        refine lv_aload_n hx hb dX5_leastOf_20 rfl (lv_at hl 0 rfl) ?_
        refine z_get C hP 0 rfl rfl in_X5 0 (by decide) q415 rfl dX5_leastOf_21 ?_
        refine lv_iload hx hb dX5_leastOf_24 (lv_at hl 5 rfl) ?_
        refine z_cV (n := 1) (As := [.int (zI ((i : Nat) : Int))]) (rest := []) C hP (k_X4_isLawful l D dA (sp) (w) (le) (rg) (st) (sd) (qa) (ql) (qf) (up) (dn) (((i : Nat) : Int)) (by first | with_reducible assumption | omega | with_reducible rfl) (by first | with_reducible assumption | omega | with_reducible rfl) (by first | with_reducible assumption | omega | with_reducible rfl) (by first | with_reducible assumption | omega | with_reducible rfl)) (lw_V q988 q989 q990 q115 q991) (by decide +kernel) rfl ⟨Nat.le_of_ble_eq_true rfl, Nat.le_of_ble_eq_true rfl⟩ hl.1 (hP.sub [1] rfl) 1 rfl rfl rfl (Nat.le_of_ble_eq_true rfl) dX5_leastOf_26 (Nat.zero_le _) (Nat.zero_le _) ?_
        refine z_if_eqB (tgt := 70) C dX5_leastOf_29 (by decide) (fun c_29 => ?_) (fun c_29 => ?_)
        · refine lv_iinc (v := zI ((i + 1 : Nat) : Int)) (lv' := [(5, .int (zI ((i + 1 : Nat) : Int))), (0, .ref (a)), (1, .int (zI ((k1 : Nat) : Int))), (2, .int (zI ((k2 : Nat) : Int))), (3, .int (zB (al))), (4, .int (zI (lw)))]) hx hb dX5_leastOf_70 hl (k := 5) rfl (zI_inc (by omega)) (by decide) rfl (fun ls hl => ?_)
          refine lv_goto (tgt := 8) hx hb dX5_leastOf_73 (by decide) ?_
          exact ih8 (i + 1) ((lw)) (by first | with_reducible assumption | omega | with_reducible rfl) (by rw [lawZ_nat] at c_29; simp only [clN]; rw [← hs]; first | (rw [if_neg (by rw [c_29, Bool.false_and]; decide)]; done) | (rw [if_neg (fun q => by rw [c_29, Bool.true_and] at q; rw [beq_iff_eq] at q; first | (rw [beq_iff_eq.mpr c_44] at q; exact c_53 q) | (rw [beq_eq_false_iff_ne.mpr c_44] at q; exact c_53 q))]; done) | (rw [if_pos (by rw [c_29, Bool.true_and]; rw [beq_iff_eq]; first | (rw [beq_iff_eq.mpr c_44]; exact c_53) | (rw [beq_eq_false_iff_ne.mpr c_44]; exact c_53))]; exact e_mv_none)) (by omega) ls (lv_sub hl [1, 2, 3, 4, 5, 0] rfl)
        · refine lv_iload hx hb dX5_leastOf_32 (lv_at hl 5 rfl) ?_
          refine lv_iload_n hx hb dX5_leastOf_34 rfl (lv_at hl 1 rfl) ?_
          refine z_cSN (n := 2) (As := [.int (zI ((i : Nat) : Int)), .int (zI ((k1 : Nat) : Int))]) (rest := []) C (k_X0_has l D dA (i) (k1) (by first | with_reducible assumption | omega | with_reducible rfl) (by first | with_reducible assumption | omega | with_reducible rfl)) (List.mem_of_getElem? (i := 5) rfl) q789 q108 q788 (by decide +kernel) rfl ⟨Nat.le_of_ble_eq_true rfl, Nat.le_of_ble_eq_true rfl⟩ hl.1 (hP.sub [] rfl) rfl (Nat.le_of_ble_eq_true rfl) dX5_leastOf_35 (Nat.zero_le _) (Nat.zero_le _) ?_
          refine lv_iload hx hb dX5_leastOf_38 (lv_at hl 5 rfl) ?_
          refine lv_iload_n hx hb dX5_leastOf_40 rfl (lv_at hl 2 rfl) ?_
          refine z_cSN (n := 2) (As := [.int (zI ((i : Nat) : Int)), .int (zI ((k2 : Nat) : Int))]) (rest := [.int (zB (i.testBit k1))]) C (k_X0_has l D dA (i) (k2) (by first | with_reducible assumption | omega | with_reducible rfl) (by first | with_reducible assumption | omega | with_reducible rfl)) (List.mem_of_getElem? (i := 5) rfl) q789 q108 q788 (by decide +kernel) rfl ⟨Nat.le_of_ble_eq_true rfl, Nat.le_of_ble_eq_true rfl⟩ hl.1 (hP.sub [] rfl) rfl (Nat.le_of_ble_eq_true rfl) dX5_leastOf_41 (Nat.zero_le _) (Nat.zero_le _) ?_
          refine z_icmp_neB (tgt := 51) C dX5_leastOf_44 (by decide) (fun c_44 => ?_) (fun c_44 => ?_)
          · refine z_iconst C dX5_leastOf_51 ?_
            refine lv_iload_n hx hb dX5_leastOf_52 rfl (lv_at hl 3 rfl) ?_
            refine z_icmp_neB (tgt := 70) (a := false) (b := al) C dX5_leastOf_53 (by decide) (fun c_53 => ?_) (fun c_53 => ?_)
            · refine lv_iinc (v := zI ((i + 1 : Nat) : Int)) (lv' := [(5, .int (zI ((i + 1 : Nat) : Int))), (0, .ref (a)), (1, .int (zI ((k1 : Nat) : Int))), (2, .int (zI ((k2 : Nat) : Int))), (3, .int (zB (al))), (4, .int (zI (lw)))]) hx hb dX5_leastOf_70 hl (k := 5) rfl (zI_inc (by omega)) (by decide) rfl (fun ls hl => ?_)
              refine lv_goto (tgt := 8) hx hb dX5_leastOf_73 (by decide) ?_
              exact ih8 (i + 1) ((lw)) (by first | with_reducible assumption | omega | with_reducible rfl) (by rw [lawZ_nat] at c_29; simp only [clN]; rw [← hs]; first | (rw [if_neg (by rw [c_29, Bool.false_and]; decide)]; done) | (rw [if_neg (fun q => by rw [c_29, Bool.true_and] at q; rw [beq_iff_eq] at q; first | (rw [beq_iff_eq.mpr c_44] at q; exact c_53 q) | (rw [beq_eq_false_iff_ne.mpr c_44] at q; exact c_53 q))]; done) | (rw [if_pos (by rw [c_29, Bool.true_and]; rw [beq_iff_eq]; first | (rw [beq_iff_eq.mpr c_44]; exact c_53) | (rw [beq_eq_false_iff_ne.mpr c_44]; exact c_53))]; exact e_mv_none)) (by omega) ls (lv_sub hl [1, 2, 3, 4, 5, 0] rfl)
            · have cl9 := clN_b (p := (fun s => law1 w le up dn s && ((s.testBit k1 == s.testBit k2) == al))) (m := 1000) (by decide) be i
              rw [← hs] at cl9
              refine lv_iload hx hb dX5_leastOf_56 (lv_at hl 4 rfl) ?_
              refine lv_aload_n hx hb dX5_leastOf_58 rfl (lv_at hl 0 rfl) ?_
              refine z_get C hP 0 rfl rfl in_X5 1 (by decide) q416 rfl dX5_leastOf_59 ?_
              refine lv_iload hx hb dX5_leastOf_62 (lv_at hl 5 rfl) ?_
              refine z_sald C hP 2 rfl (i) rfl (by omega) (by decide) dX5_leastOf_64 ?_
              refine z_mmin C ⟨by omega, by omega⟩ ⟨by omega, by omega⟩ q1648 hl.1 (Nat.le_of_ble_eq_true rfl) (Nat.le_of_ble_eq_true rfl) (Nat.zero_le _) (Nat.zero_le _) dX5_leastOf_65 ?_
              refine z_nm (fun mv_1 e_mv_1 => ?_)
              refine lv_istore (lv' := [(4, .int (zI (mv_1))), (0, .ref (a)), (1, .int (zI ((k1 : Nat) : Int))), (2, .int (zI ((k2 : Nat) : Int))), (3, .int (zB (al))), (5, .int (zI ((i : Nat) : Int)))]) hx hb dX5_leastOf_68 hl (by decide) rfl (fun ls hl => ?_)
              refine lv_iinc (v := zI ((i + 1 : Nat) : Int)) (lv' := [(5, .int (zI ((i + 1 : Nat) : Int))), (4, .int (zI (mv_1))), (0, .ref (a)), (1, .int (zI ((k1 : Nat) : Int))), (2, .int (zI ((k2 : Nat) : Int))), (3, .int (zB (al)))]) hx hb dX5_leastOf_70 hl (k := 5) rfl (zI_inc (by omega)) (by decide) rfl (fun ls hl => ?_)
              refine lv_goto (tgt := 8) hx hb dX5_leastOf_73 (by decide) ?_
              exact ih8 (i + 1) ((mv_1)) (by first | with_reducible assumption | omega | with_reducible rfl) (by rw [lawZ_nat] at c_29; simp only [clN]; rw [← hs]; first | (rw [if_neg (by rw [c_29, Bool.false_and]; decide)]; done) | (rw [if_neg (fun q => by rw [c_29, Bool.true_and] at q; rw [beq_iff_eq] at q; first | (rw [beq_iff_eq.mpr c_44] at q; exact c_53 q) | (rw [beq_eq_false_iff_ne.mpr c_44] at q; exact c_53 q))]; done) | (rw [if_pos (by rw [c_29, Bool.true_and]; rw [beq_iff_eq]; first | (rw [beq_iff_eq.mpr c_44]; exact c_53) | (rw [beq_eq_false_iff_ne.mpr c_44]; exact c_53))]; exact e_mv_1)) (by omega) ls (lv_sub hl [2, 3, 4, 5, 1, 0] rfl)
          · refine z_iconst C dX5_leastOf_47 ?_
            refine lv_goto (tgt := 52) hx hb dX5_leastOf_48 (by decide) ?_
            refine lv_iload_n hx hb dX5_leastOf_52 rfl (lv_at hl 3 rfl) ?_
            refine z_icmp_neB (tgt := 70) (a := true) (b := al) C dX5_leastOf_53 (by decide) (fun c_53 => ?_) (fun c_53 => ?_)
            · refine lv_iinc (v := zI ((i + 1 : Nat) : Int)) (lv' := [(5, .int (zI ((i + 1 : Nat) : Int))), (0, .ref (a)), (1, .int (zI ((k1 : Nat) : Int))), (2, .int (zI ((k2 : Nat) : Int))), (3, .int (zB (al))), (4, .int (zI (lw)))]) hx hb dX5_leastOf_70 hl (k := 5) rfl (zI_inc (by omega)) (by decide) rfl (fun ls hl => ?_)
              refine lv_goto (tgt := 8) hx hb dX5_leastOf_73 (by decide) ?_
              exact ih8 (i + 1) ((lw)) (by first | with_reducible assumption | omega | with_reducible rfl) (by rw [lawZ_nat] at c_29; simp only [clN]; rw [← hs]; first | (rw [if_neg (by rw [c_29, Bool.false_and]; decide)]; done) | (rw [if_neg (fun q => by rw [c_29, Bool.true_and] at q; rw [beq_iff_eq] at q; first | (rw [beq_iff_eq.mpr c_44] at q; exact c_53 q) | (rw [beq_eq_false_iff_ne.mpr c_44] at q; exact c_53 q))]; done) | (rw [if_pos (by rw [c_29, Bool.true_and]; rw [beq_iff_eq]; first | (rw [beq_iff_eq.mpr c_44]; exact c_53) | (rw [beq_eq_false_iff_ne.mpr c_44]; exact c_53))]; exact e_mv_1)) (by omega) ls (lv_sub hl [1, 2, 3, 4, 5, 0] rfl)
            · have cl9 := clN_b (p := (fun s => law1 w le up dn s && ((s.testBit k1 == s.testBit k2) == al))) (m := 1000) (by decide) be i
              rw [← hs] at cl9
              refine lv_iload hx hb dX5_leastOf_56 (lv_at hl 4 rfl) ?_
              refine lv_aload_n hx hb dX5_leastOf_58 rfl (lv_at hl 0 rfl) ?_
              refine z_get C hP 0 rfl rfl in_X5 1 (by decide) q416 rfl dX5_leastOf_59 ?_
              refine lv_iload hx hb dX5_leastOf_62 (lv_at hl 5 rfl) ?_
              refine z_sald C hP 2 rfl (i) rfl (by omega) (by decide) dX5_leastOf_64 ?_
              refine z_mmin C ⟨by omega, by omega⟩ ⟨by omega, by omega⟩ q1648 hl.1 (Nat.le_of_ble_eq_true rfl) (Nat.le_of_ble_eq_true rfl) (Nat.zero_le _) (Nat.zero_le _) dX5_leastOf_65 ?_
              refine z_nm (fun mv_2 e_mv_2 => ?_)
              refine lv_istore (lv' := [(4, .int (zI (mv_2))), (0, .ref (a)), (1, .int (zI ((k1 : Nat) : Int))), (2, .int (zI ((k2 : Nat) : Int))), (3, .int (zB (al))), (5, .int (zI ((i : Nat) : Int)))]) hx hb dX5_leastOf_68 hl (by decide) rfl (fun ls hl => ?_)
              refine lv_iinc (v := zI ((i + 1 : Nat) : Int)) (lv' := [(5, .int (zI ((i + 1 : Nat) : Int))), (4, .int (zI (mv_2))), (0, .ref (a)), (1, .int (zI ((k1 : Nat) : Int))), (2, .int (zI ((k2 : Nat) : Int))), (3, .int (zB (al)))]) hx hb dX5_leastOf_70 hl (k := 5) rfl (zI_inc (by omega)) (by decide) rfl (fun ls hl => ?_)
              refine lv_goto (tgt := 8) hx hb dX5_leastOf_73 (by decide) ?_
              exact ih8 (i + 1) ((mv_2)) (by first | with_reducible assumption | omega | with_reducible rfl) (by rw [lawZ_nat] at c_29; simp only [clN]; rw [← hs]; first | (rw [if_neg (by rw [c_29, Bool.false_and]; decide)]; done) | (rw [if_neg (fun q => by rw [c_29, Bool.true_and] at q; rw [beq_iff_eq] at q; first | (rw [beq_iff_eq.mpr c_44] at q; exact c_53 q) | (rw [beq_eq_false_iff_ne.mpr c_44] at q; exact c_53 q))]; done) | (rw [if_pos (by rw [c_29, Bool.true_and]; rw [beq_iff_eq]; first | (rw [beq_iff_eq.mpr c_44]; exact c_53) | (rw [beq_eq_false_iff_ne.mpr c_44]; exact c_53))]; exact e_mv_2)) (by omega) ls (lv_sub hl [2, 3, 4, 5, 1, 0] rfl)
  exact L8 ((nst w le - 0) + 1) (0) (145) (by first | with_reducible assumption | omega | with_reducible rfl) rfl (by omega) ls (lv_sub hl [2, 3, 4, 5, 1, 0] rfl)
set_option maxHeartbeats 600000 in
set_option maxRecDepth 100000 in
theorem k_X5_nearest (l : Launch) (D : va_G) (dA : Nat → ClassId) (a sp w le rg st sd qa ql qf up dn qe : Nat) (x1 x2 x3 x4 x5 : Value) (lst : Int) (ef : Nat → Int) (x : Nat) (hwl : w * le ≤ 16) (hu : up < 65536) (hd : dn < 65536) (be : ∀ j, -1000 ≤ ef j ∧ ef j ≤ 1000) (hxx : x < 65536) (hls : zR lst) : zM l yX5_nearest cX5_nearest 4 (some .int) (zRm 4 82) D dA [.ref (a), .int (zI ((x : Nat) : Int))] [(a, .inr (5, [.ref (sp), .ref (qe), x1, x2, x3, x4, .int (zI (lst)), x5])), (sp, .inr (4, [.int (zI ((w : Nat) : Int)), .int (zI ((le : Nat) : Int)), .int (zI ((rg : Nat) : Int)), .int (zI ((st : Nat) : Int)), .int (zI ((sd : Nat) : Int)), .ref (qa), .ref (ql), .ref (qf), .int (zI ((up : Nat) : Int)), .int (zI ((dn : Nat) : Int))])), (qe, .inl (dA 2, 65536, .inl (fun jz => zI (ef jz))))] (some (.int (zI (nrN (fun s => law1 w le up dn s && decide (ef s = lst)) x (nst w le))))) := by
  refine zM.of (by decide +kernel) rfl ?_
  intro pp ee ss mm args below meth cd Q C hr hlk hQ hP ls hl
  have hx := C.1.1
  have hb := C.1.2.1
  have hl : lv_has ls 4 [(0, .ref (a)), (1, .int (zI ((x : Nat) : Int)))] := hl
  have hns : nst w le ≤ 65536 := nst_le hwl
  refine z_iconst C dX5_nearest_0 ?_
  refine lv_istore_n (lv' := [(2, .int (zI (-1))), (0, .ref (a)), (1, .int (zI ((x : Nat) : Int)))]) hx hb dX5_nearest_1 rfl hl (by decide) rfl (fun ls hl => ?_)
  refine z_iconst C dX5_nearest_2 ?_
  refine lv_istore_n (lv' := [(3, .int (zI 0)), (2, .int (zI (-1))), (0, .ref (a)), (1, .int (zI ((x : Nat) : Int)))]) hx hb dX5_nearest_3 rfl hl (by decide) rfl (fun ls hl => ?_)
  have L4 : ∀ (N : Nat) (i : Nat) (bs : Int), (i ≤ nst w le) → (bs = nrN (fun s => law1 w le up dn s && decide (ef s = lst)) x i) → (-1 ≤ bs ∧ bs < i) → (nst w le - i) < N → ∀ ls : Array Slot, lv_has ls 4 [(0, .ref (a)), (1, .int (zI ((x : Nat) : Int))), (2, .int (zI (bs))), (3, .int (zI ((i : Nat) : Int)))] → W pp l ee (zRm 4 82) ss mm args below meth cd ss.heap [] 0 0 Q (F0 mm 4 ls []) := by
    intro N
    induction N with
    | zero => intro i bs _ _ _ hm; exact absurd hm (Nat.not_lt_zero _)
    | succ N ih4 =>
      intro i bs hi hs hb9 hmz4 ls hl
      refine lv_iload_n hx hb dX5_nearest_4 rfl (lv_at hl 3 rfl) ?_
      refine lv_aload_n hx hb dX5_nearest_5 rfl (lv_at hl 0 rfl) ?_
      refine z_get C hP 0 rfl rfl in_X5 0 (by decide) q415 rfl dX5_nearest_6 ?_
      refine z_cV (n := 0) (As := []) (rest := [.int (zI ((i : Nat) : Int))]) C hP (k_X4_states l D dA (sp) (w) (le) (rg) (st) (sd) (qa) (ql) (qf) (up) (dn) (by first | with_reducible assumption | omega | with_reducible rfl)) (lw_V q959 q960 q961 q115 q962) (by decide +kernel) rfl ⟨Nat.le_of_ble_eq_true rfl, Nat.le_of_ble_eq_true rfl⟩ hl.1 (hP.sub [1] rfl) 1 rfl rfl rfl (Nat.le_of_ble_eq_true rfl) dX5_nearest_9 (Nat.zero_le _) (Nat.zero_le _) ?_
      refine z_icmp_ge (tgt := 50) C ⟨by omega, by omega⟩ ⟨by omega, by omega⟩ dX5_nearest_12 (by decide) (fun c_12 => ?_) (fun c_12 => ?_)
      · refine lv_iload_n hx hb dX5_nearest_50 rfl (lv_at hl 2 rfl) ?_
        exact z_iret C hlk hr hQ (by rw [show nst w le = i by omega, hs]) dX5_nearest_51
      · refine lv_aload_n hx hb dX5_nearest_15 rfl (lv_at hl 0 rfl) ?_
        refine lv_iload_n hx hb dX5_nearest_16 rfl (lv_at hl 3 rfl) ?_
        refine z_cV (n := 1) (As := [.int (zI ((i : Nat) : Int))]) (rest := []) C hP (k_X5_isGround l D dA (a) (sp) (w) (le) (rg) (st) (sd) (qa) (ql) (qf) (up) (dn) (qe) (x1) (x2) (x3) (x4) (x5) ((lst)) (ef) (i) (by first | with_reducible assumption | omega | with_reducible rfl) (by first | with_reducible assumption | omega | with_reducible rfl) (by first | with_reducible assumption | omega | with_reducible rfl) (by first | with_reducible assumption | omega | with_reducible rfl) (by first | with_reducible assumption | omega | with_reducible rfl) (by first | with_reducible assumption | omega | with_reducible rfl)) (lw_V q1627 q1564 q1565 q116 q1566) (by decide +kernel) rfl ⟨Nat.le_of_ble_eq_true rfl, Nat.le_of_ble_eq_true rfl⟩ hl.1 (hP.sub [0, 1, 2] rfl) 0 rfl rfl rfl (Nat.le_of_ble_eq_true rfl) dX5_nearest_17 (Nat.zero_le _) (Nat.zero_le _) ?_
        refine z_if_eqB (tgt := 44) C dX5_nearest_20 (by decide) (fun c_20 => ?_) (fun c_20 => ?_)
        · refine lv_iinc (v := zI ((i + 1 : Nat) : Int)) (lv' := [(3, .int (zI ((i + 1 : Nat) : Int))), (0, .ref (a)), (1, .int (zI ((x : Nat) : Int))), (2, .int (zI (bs)))]) hx hb dX5_nearest_44 hl (k := 3) rfl (zI_inc (by omega)) (by decide) rfl (fun ls hl => ?_)
          refine lv_goto (tgt := 4) hx hb dX5_nearest_47 (by decide) ?_
          exact ih4 (i + 1) ((bs)) (by first | with_reducible assumption | omega | with_reducible rfl) (by simp only [nrN]; rw [← hs]; first | (rw [if_neg (fun q => by rw [c_20] at q; exact absurd q.1 (by decide))]; done) | (rw [if_pos ⟨c_20, Or.inl (by omega)⟩]; done) | (rw [if_pos ⟨c_20, Or.inr (by rw [Int.toNat_natCast]; omega)⟩]; done) | (rw [if_neg (fun q => by rcases q.2 with y | y; omega; rw [Int.toNat_natCast] at y; omega)]; done)) (by first | with_reducible assumption | omega | with_reducible rfl) (by omega) ls (lv_sub hl [1, 2, 3, 0] rfl)
        · refine lv_iload_n hx hb dX5_nearest_23 rfl (lv_at hl 2 rfl) ?_
          refine z_if_lt (tgt := 42) C ⟨by omega, by omega⟩ dX5_nearest_24 (by decide) (fun c_24 => ?_) (fun c_24 => ?_)
          · refine lv_iload_n hx hb dX5_nearest_42 rfl (lv_at hl 3 rfl) ?_
            refine lv_istore_n (lv' := [(2, .int (zI ((i : Nat) : Int))), (0, .ref (a)), (1, .int (zI ((x : Nat) : Int))), (3, .int (zI ((i : Nat) : Int)))]) hx hb dX5_nearest_43 rfl hl (by decide) rfl (fun ls hl => ?_)
            refine lv_iinc (v := zI ((i + 1 : Nat) : Int)) (lv' := [(3, .int (zI ((i + 1 : Nat) : Int))), (2, .int (zI ((i : Nat) : Int))), (0, .ref (a)), (1, .int (zI ((x : Nat) : Int)))]) hx hb dX5_nearest_44 hl (k := 3) rfl (zI_inc (by omega)) (by decide) rfl (fun ls hl => ?_)
            refine lv_goto (tgt := 4) hx hb dX5_nearest_47 (by decide) ?_
            exact ih4 (i + 1) (((i : Nat) : Int)) (by first | with_reducible assumption | omega | with_reducible rfl) (by simp only [nrN]; rw [← hs]; first | (rw [if_neg (fun q => by rw [c_20] at q; exact absurd q.1 (by decide))]; done) | (rw [if_pos ⟨c_20, Or.inl (by omega)⟩]; done) | (rw [if_pos ⟨c_20, Or.inr (by rw [Int.toNat_natCast]; omega)⟩]; done) | (rw [if_neg (fun q => by rcases q.2 with y | y; omega; rw [Int.toNat_natCast] at y; omega)]; done)) (by first | with_reducible assumption | omega | with_reducible rfl) (by omega) ls (lv_sub hl [2, 3, 1, 0] rfl)
          · obtain ⟨bn, rfl⟩ : ∃ q : Nat, bs = (q : Int) := ⟨bs.toNat, by omega⟩
            have x1 : i ^^^ x < 2 ^ 16 := Nat.xor_lt_two_pow (by omega) (by omega)
            have x2 : bn ^^^ x < 2 ^ 16 := Nat.xor_lt_two_pow (by omega) (by omega)
            have p1 : pop (i ^^^ x) ≤ 32 := pcf_le 32 _
            have p2 : pop (bn ^^^ x) ≤ 32 := pcf_le 32 _
            refine lv_iload_n hx hb dX5_nearest_27 rfl (lv_at hl 3 rfl) ?_
            refine lv_iload_n hx hb dX5_nearest_28 rfl (lv_at hl 1 rfl) ?_
            refine z_ixor C (i) (x) rfl rfl dX5_nearest_29 ?_
            refine z_cSN (n := 1) (As := [.int (zI (((i ^^^ x) : Nat) : Int))]) (rest := []) C (k_X0_many l D dA ((i ^^^ x)) (by first | with_reducible assumption | omega | with_reducible rfl)) (List.mem_of_getElem? (i := 3) rfl) q1266 q108 q1265 (by decide +kernel) rfl ⟨Nat.le_of_ble_eq_true rfl, Nat.le_of_ble_eq_true rfl⟩ hl.1 (hP.sub [] rfl) rfl (Nat.le_of_ble_eq_true rfl) dX5_nearest_30 (Nat.zero_le _) (Nat.zero_le _) ?_
            refine lv_iload_n hx hb dX5_nearest_33 rfl (lv_at hl 2 rfl) ?_
            refine lv_iload_n hx hb dX5_nearest_34 rfl (lv_at hl 1 rfl) ?_
            refine z_ixor C (bn) (x) rfl rfl dX5_nearest_35 ?_
            refine z_cSN (n := 1) (As := [.int (zI (((bn ^^^ x) : Nat) : Int))]) (rest := [.int (zI ((pop ((i ^^^ x)) : Nat) : Int))]) C (k_X0_many l D dA ((bn ^^^ x)) (by first | with_reducible assumption | omega | with_reducible rfl)) (List.mem_of_getElem? (i := 3) rfl) q1266 q108 q1265 (by decide +kernel) rfl ⟨Nat.le_of_ble_eq_true rfl, Nat.le_of_ble_eq_true rfl⟩ hl.1 (hP.sub [] rfl) rfl (Nat.le_of_ble_eq_true rfl) dX5_nearest_36 (Nat.zero_le _) (Nat.zero_le _) ?_
            refine z_icmp_ge (tgt := 44) C ⟨by omega, by omega⟩ ⟨by omega, by omega⟩ dX5_nearest_39 (by decide) (fun c_39 => ?_) (fun c_39 => ?_)
            · refine lv_iinc (v := zI ((i + 1 : Nat) : Int)) (lv' := [(3, .int (zI ((i + 1 : Nat) : Int))), (0, .ref (a)), (1, .int (zI ((x : Nat) : Int))), (2, .int (zI ((bn : Nat) : Int)))]) hx hb dX5_nearest_44 hl (k := 3) rfl (zI_inc (by omega)) (by decide) rfl (fun ls hl => ?_)
              refine lv_goto (tgt := 4) hx hb dX5_nearest_47 (by decide) ?_
              exact ih4 (i + 1) (((bn : Nat) : Int)) (by first | with_reducible assumption | omega | with_reducible rfl) (by simp only [nrN]; rw [← hs]; first | (rw [if_neg (fun q => by rw [c_20] at q; exact absurd q.1 (by decide))]; done) | (rw [if_pos ⟨c_20, Or.inl (by omega)⟩]; done) | (rw [if_pos ⟨c_20, Or.inr (by rw [Int.toNat_natCast]; omega)⟩]; done) | (rw [if_neg (fun q => by rcases q.2 with y | y; omega; rw [Int.toNat_natCast] at y; omega)]; done)) (by first | with_reducible assumption | omega | with_reducible rfl) (by omega) ls (lv_sub hl [1, 2, 3, 0] rfl)
            · refine lv_iload_n hx hb dX5_nearest_42 rfl (lv_at hl 3 rfl) ?_
              refine lv_istore_n (lv' := [(2, .int (zI ((i : Nat) : Int))), (0, .ref (a)), (1, .int (zI ((x : Nat) : Int))), (3, .int (zI ((i : Nat) : Int)))]) hx hb dX5_nearest_43 rfl hl (by decide) rfl (fun ls hl => ?_)
              refine lv_iinc (v := zI ((i + 1 : Nat) : Int)) (lv' := [(3, .int (zI ((i + 1 : Nat) : Int))), (2, .int (zI ((i : Nat) : Int))), (0, .ref (a)), (1, .int (zI ((x : Nat) : Int)))]) hx hb dX5_nearest_44 hl (k := 3) rfl (zI_inc (by omega)) (by decide) rfl (fun ls hl => ?_)
              refine lv_goto (tgt := 4) hx hb dX5_nearest_47 (by decide) ?_
              exact ih4 (i + 1) (((i : Nat) : Int)) (by first | with_reducible assumption | omega | with_reducible rfl) (by simp only [nrN]; rw [← hs]; first | (rw [if_neg (fun q => by rw [c_20] at q; exact absurd q.1 (by decide))]; done) | (rw [if_pos ⟨c_20, Or.inl (by omega)⟩]; done) | (rw [if_pos ⟨c_20, Or.inr (by rw [Int.toNat_natCast]; omega)⟩]; done) | (rw [if_neg (fun q => by rcases q.2 with y | y; omega; rw [Int.toNat_natCast] at y; omega)]; done)) (by first | with_reducible assumption | omega | with_reducible rfl) (by omega) ls (lv_sub hl [2, 3, 1, 0] rfl)
  exact L4 ((nst w le - 0) + 1) (0) ((-1)) (by first | with_reducible assumption | omega | with_reducible rfl) rfl (by first | with_reducible assumption | omega | with_reducible rfl) (by omega) ls (lv_sub hl [2, 3, 1, 0] rfl)
