set_option maxHeartbeats 600000 in
set_option maxRecDepth 100000 in
theorem k_X5_of (l : Launch) (D : va_G) (dA : Nat → ClassId) (a sp w le rg st sd qa ql qf up dn qe : Nat) (x1 x2 x3 x4 x5 : Value) (lst : Int) (ef : Nat → Int) (i : Nat) (hi : i < 65536) : zM l yX5_of cX5_of 2 (some .int) (zRm 0 0) D dA [.ref (a), .int (zI ((i : Nat) : Int))] [(a, .inr (5, [.ref (sp), .ref (qe), x1, x2, x3, x4, .int (zI (lst)), x5])), (sp, .inr (4, [.int (zI ((w : Nat) : Int)), .int (zI ((le : Nat) : Int)), .int (zI ((rg : Nat) : Int)), .int (zI ((st : Nat) : Int)), .int (zI ((sd : Nat) : Int)), .ref (qa), .ref (ql), .ref (qf), .int (zI ((up : Nat) : Int)), .int (zI ((dn : Nat) : Int))])), (qe, .inl (dA 2, 65536, .inl (fun jz => zI (ef jz))))] (some (.int (zI (ef i)))) := by
  refine zM.of (by decide +kernel) rfl ?_
  intro pp ee ss mm args below meth cd Q C hr hlk hQ hP ls hl
  have hx := C.1.1
  have hb := C.1.2.1
  have hl : lv_has ls 2 [(0, .ref (a)), (1, .int (zI ((i : Nat) : Int)))] := hl
  refine lv_aload_n hx hb dX5_of_0 rfl (lv_at hl 0 rfl) ?_
  refine z_get C hP 0 rfl rfl in_X5 1 (by decide) q416 rfl dX5_of_1 ?_
  refine lv_iload_n hx hb dX5_of_4 rfl (lv_at hl 1 rfl) ?_
  refine z_sald C hP 2 rfl (i) rfl (by omega) (by decide) dX5_of_5 ?_
  exact z_iret C hlk hr hQ (by first | rfl | omega) dX5_of_6
set_option maxHeartbeats 600000 in
set_option maxRecDepth 100000 in
theorem k_X5_isGround (l : Launch) (D : va_G) (dA : Nat → ClassId) (a sp w le rg st sd qa ql qf up dn qe : Nat) (x1 x2 x3 x4 x5 : Value) (lst : Int) (ef : Nat → Int) (i : Nat) (hwl : w * le ≤ 16) (hu : up < 65536) (hd : dn < 65536) (be : ∀ j, -1000 ≤ ef j ∧ ef j ≤ 1000) (hi : i < 65536) (hls : zR lst) : zM l yX5_isGround cX5_isGround 2 (some .boolean) (zRm 3 61) D dA [.ref (a), .int (zI ((i : Nat) : Int))] [(a, .inr (5, [.ref (sp), .ref (qe), x1, x2, x3, x4, .int (zI (lst)), x5])), (sp, .inr (4, [.int (zI ((w : Nat) : Int)), .int (zI ((le : Nat) : Int)), .int (zI ((rg : Nat) : Int)), .int (zI ((st : Nat) : Int)), .int (zI ((sd : Nat) : Int)), .ref (qa), .ref (ql), .ref (qf), .int (zI ((up : Nat) : Int)), .int (zI ((dn : Nat) : Int))])), (qe, .inl (dA 2, 65536, .inl (fun jz => zI (ef jz))))] (some (.int (zB ((law1 w le up dn i && decide (ef i = lst)))))) := by
  refine zM.of (by decide +kernel) rfl ?_
  intro pp ee ss mm args below meth cd Q C hr hlk hQ hP ls hl
  have hx := C.1.1
  have hb := C.1.2.1
  have hl : lv_has ls 2 [(0, .ref (a)), (1, .int (zI ((i : Nat) : Int)))] := hl
  have b9 := be i
  refine lv_aload_n hx hb dX5_isGround_0 rfl (lv_at hl 0 rfl) ?_
  refine z_get C hP 0 rfl rfl in_X5 0 (by decide) q415 rfl dX5_isGround_1 ?_
  refine lv_iload_n hx hb dX5_isGround_4 rfl (lv_at hl 1 rfl) ?_
  refine z_cV (n := 1) (As := [.int (zI ((i : Nat) : Int))]) (rest := []) C hP (k_X4_isLawful l D dA (sp) (w) (le) (rg) (st) (sd) (qa) (ql) (qf) (up) (dn) (((i : Nat) : Int)) (by first | with_reducible assumption | omega | with_reducible rfl) (by first | with_reducible assumption | omega | with_reducible rfl) (by first | with_reducible assumption | omega | with_reducible rfl) (by first | with_reducible assumption | omega | with_reducible rfl)) (lw_V q988 q989 q990 q115 q991) (by decide +kernel) rfl ⟨Nat.le_of_ble_eq_true rfl, Nat.le_of_ble_eq_true rfl⟩ hl.1 (hP.sub [1] rfl) 1 rfl rfl rfl (Nat.le_of_ble_eq_true rfl) dX5_isGround_5 (Nat.zero_le _) (Nat.zero_le _) ?_
  refine z_if_eqB (tgt := 28) C dX5_isGround_8 (by decide) (fun c_8 => ?_) (fun c_8 => ?_)
  · refine z_iconst C dX5_isGround_28 ?_
    exact z_zret0 C hlk hr hQ (by rw [lawZ_nat] at c_8; rw [c_8]; first | rfl | (rw [decide_eq_true (by omega)]; rfl) | (rw [decide_eq_false (by omega)]; rfl)) dX5_isGround_29
  · refine lv_aload_n hx hb dX5_isGround_11 rfl (lv_at hl 0 rfl) ?_
    refine z_get C hP 0 rfl rfl in_X5 1 (by decide) q416 rfl dX5_isGround_12 ?_
    refine lv_iload_n hx hb dX5_isGround_15 rfl (lv_at hl 1 rfl) ?_
    refine z_sald C hP 2 rfl (i) rfl (by omega) (by decide) dX5_isGround_16 ?_
    refine lv_aload_n hx hb dX5_isGround_17 rfl (lv_at hl 0 rfl) ?_
    refine z_get C hP 0 rfl rfl in_X5 6 (by decide) q423 rfl dX5_isGround_18 ?_
    refine z_icmp_ne (tgt := 28) C ⟨by omega, by omega⟩ ⟨by omega, by omega⟩ dX5_isGround_21 (by decide) (fun c_21 => ?_) (fun c_21 => ?_)
    · refine z_iconst C dX5_isGround_28 ?_
      exact z_zret0 C hlk hr hQ (by rw [lawZ_nat] at c_8; rw [c_8]; first | rfl | (rw [decide_eq_true (by omega)]; rfl) | (rw [decide_eq_false (by omega)]; rfl)) dX5_isGround_29
    · refine z_iconst C dX5_isGround_24 ?_
      refine lv_goto (tgt := 29) hx hb dX5_isGround_25 (by decide) ?_
      exact z_zret1 C hlk hr hQ (by rw [lawZ_nat] at c_8; rw [c_8]; first | rfl | (rw [decide_eq_true (by omega)]; rfl) | (rw [decide_eq_false (by omega)]; rfl)) dX5_isGround_29
set_option maxHeartbeats 600000 in
set_option maxRecDepth 100000 in
theorem k_X5_ups (l : Launch) (D : va_G) (dA : Nat → ClassId) (a sp w le rg st sd qa ql qf up dn qe : Nat) (x1 x2 x3 x4 x5 : Value) (lst : Int) (ef : Nat → Int) (en : Int) (hwl : w * le ≤ 16) (hu : up < 65536) (hd : dn < 65536) (be : ∀ j, -1000 ≤ ef j ∧ ef j ≤ 1000) (h1 : zR en) : zM l yX5_ups cX5_ups 4 (some .int) (zRm 3 61) D dA [.ref (a), .int (zI (en))] [(a, .inr (5, [.ref (sp), .ref (qe), x1, x2, x3, x4, .int (zI (lst)), x5])), (sp, .inr (4, [.int (zI ((w : Nat) : Int)), .int (zI ((le : Nat) : Int)), .int (zI ((rg : Nat) : Int)), .int (zI ((st : Nat) : Int)), .int (zI ((sd : Nat) : Int)), .ref (qa), .ref (ql), .ref (qf), .int (zI ((up : Nat) : Int)), .int (zI ((dn : Nat) : Int))])), (qe, .inl (dA 2, 65536, .inl (fun jz => zI (ef jz))))] (some (.int (zI (smN (fun s => decide (ef s = en) && law1 w le up dn s) (fun s => ((pop s : Nat) : Int)) (nst w le))))) := by
  refine zM.of (by decide +kernel) rfl ?_
  intro pp ee ss mm args below meth cd Q C hr hlk hQ hP ls hl
  have hx := C.1.1
  have hb := C.1.2.1
  have hl : lv_has ls 4 [(0, .ref (a)), (1, .int (zI (en)))] := hl
  have hns : nst w le ≤ 65536 := nst_le hwl
  refine z_iconst C dX5_ups_0 ?_
  refine lv_istore_n (lv' := [(2, .int (zI 0)), (0, .ref (a)), (1, .int (zI (en)))]) hx hb dX5_ups_1 rfl hl (by decide) rfl (fun ls hl => ?_)
  refine z_iconst C dX5_ups_2 ?_
  refine lv_istore_n (lv' := [(3, .int (zI 0)), (2, .int (zI 0)), (0, .ref (a)), (1, .int (zI (en)))]) hx hb dX5_ups_3 rfl hl (by decide) rfl (fun ls hl => ?_)
  have L4 : ∀ (N : Nat) (i : Nat) (sm : Int), (i ≤ nst w le) → (sm = smN (fun s => decide (ef s = en) && law1 w le up dn s) (fun s => ((pop s : Nat) : Int)) i) → (nst w le - i) < N → ∀ ls : Array Slot, lv_has ls 4 [(0, .ref (a)), (1, .int (zI (en))), (2, .int (zI (sm))), (3, .int (zI ((i : Nat) : Int)))] → W pp l ee (zRm 3 61) ss mm args below meth cd ss.heap [] 0 0 Q (F0 mm 4 ls []) := by
    intro N
    induction N with
    | zero => intro i sm _ _ hm; exact absurd hm (Nat.not_lt_zero _)
    | succ N ih4 =>
      intro i sm hi hs hmz4 ls hl
      refine lv_iload_n hx hb dX5_ups_4 rfl (lv_at hl 3 rfl) ?_
      refine lv_aload_n hx hb dX5_ups_5 rfl (lv_at hl 0 rfl) ?_
      refine z_get C hP 0 rfl rfl in_X5 0 (by decide) q415 rfl dX5_ups_6 ?_
      refine z_cV (n := 0) (As := []) (rest := [.int (zI ((i : Nat) : Int))]) C hP (k_X4_states l D dA (sp) (w) (le) (rg) (st) (sd) (qa) (ql) (qf) (up) (dn) (by first | with_reducible assumption | omega | with_reducible rfl)) (lw_V q959 q960 q961 q115 q962) (by decide +kernel) rfl ⟨Nat.le_of_ble_eq_true rfl, Nat.le_of_ble_eq_true rfl⟩ hl.1 (hP.sub [1] rfl) 1 rfl rfl rfl (Nat.le_of_ble_eq_true rfl) dX5_ups_9 (Nat.zero_le _) (Nat.zero_le _) ?_
      refine z_icmp_ge (tgt := 49) C ⟨by omega, by omega⟩ ⟨by omega, by omega⟩ dX5_ups_12 (by decide) (fun c_12 => ?_) (fun c_12 => ?_)
      · refine lv_iload_n hx hb dX5_ups_49 rfl (lv_at hl 2 rfl) ?_
        exact z_iret C hlk hr hQ (by rw [show nst w le = i by omega, hs]) dX5_ups_50
      · have b9 := be i
        have p9 : pop i ≤ 32 := pcf_le 32 i
        refine lv_aload_n hx hb dX5_ups_15 rfl (lv_at hl 0 rfl) ?_
        refine z_get C hP 0 rfl rfl in_X5 1 (by decide) q416 rfl dX5_ups_16 ?_
        refine lv_iload_n hx hb dX5_ups_19 rfl (lv_at hl 3 rfl) ?_
        refine z_sald C hP 2 rfl (i) rfl (by omega) (by decide) dX5_ups_20 ?_
        refine lv_iload_n hx hb dX5_ups_21 rfl (lv_at hl 1 rfl) ?_
        refine z_icmp_ne (tgt := 43) C ⟨by omega, by omega⟩ ⟨by omega, by omega⟩ dX5_ups_22 (by decide) (fun c_22 => ?_) (fun c_22 => ?_)
        · refine lv_iinc (v := zI ((i + 1 : Nat) : Int)) (lv' := [(3, .int (zI ((i + 1 : Nat) : Int))), (0, .ref (a)), (1, .int (zI (en))), (2, .int (zI (sm)))]) hx hb dX5_ups_43 hl (k := 3) rfl (zI_inc (by omega)) (by decide) rfl (fun ls hl => ?_)
          refine lv_goto (tgt := 4) hx hb dX5_ups_46 (by decide) ?_
          exact ih4 (i + 1) ((sm)) (by first | with_reducible assumption | omega | with_reducible rfl) (by simp only [smN]; rw [← hs]; first | (rw [if_neg (by rw [decide_eq_false (by omega), Bool.false_and]; decide)]; done) | (rw [lawZ_nat] at c_33; rw [if_neg (by rw [c_33]; simp)]; done) | (rw [lawZ_nat] at c_33; rw [if_pos (by rw [c_33, decide_eq_true (by omega)]; rfl)]; done)) (by omega) ls (lv_sub hl [1, 2, 3, 0] rfl)
        · refine lv_aload_n hx hb dX5_ups_25 rfl (lv_at hl 0 rfl) ?_
          refine z_get C hP 0 rfl rfl in_X5 0 (by decide) q415 rfl dX5_ups_26 ?_
          refine lv_iload_n hx hb dX5_ups_29 rfl (lv_at hl 3 rfl) ?_
          refine z_cV (n := 1) (As := [.int (zI ((i : Nat) : Int))]) (rest := []) C hP (k_X4_isLawful l D dA (sp) (w) (le) (rg) (st) (sd) (qa) (ql) (qf) (up) (dn) (((i : Nat) : Int)) (by first | with_reducible assumption | omega | with_reducible rfl) (by first | with_reducible assumption | omega | with_reducible rfl) (by first | with_reducible assumption | omega | with_reducible rfl) (by first | with_reducible assumption | omega | with_reducible rfl)) (lw_V q988 q989 q990 q115 q991) (by decide +kernel) rfl ⟨Nat.le_of_ble_eq_true rfl, Nat.le_of_ble_eq_true rfl⟩ hl.1 (hP.sub [1] rfl) 1 rfl rfl rfl (Nat.le_of_ble_eq_true rfl) dX5_ups_30 (Nat.zero_le _) (Nat.zero_le _) ?_
          refine z_if_eqB (tgt := 43) C dX5_ups_33 (by decide) (fun c_33 => ?_) (fun c_33 => ?_)
          · refine lv_iinc (v := zI ((i + 1 : Nat) : Int)) (lv' := [(3, .int (zI ((i + 1 : Nat) : Int))), (0, .ref (a)), (1, .int (zI (en))), (2, .int (zI (sm)))]) hx hb dX5_ups_43 hl (k := 3) rfl (zI_inc (by omega)) (by decide) rfl (fun ls hl => ?_)
            refine lv_goto (tgt := 4) hx hb dX5_ups_46 (by decide) ?_
            exact ih4 (i + 1) ((sm)) (by first | with_reducible assumption | omega | with_reducible rfl) (by simp only [smN]; rw [← hs]; first | (rw [if_neg (by rw [decide_eq_false (by omega), Bool.false_and]; decide)]; done) | (rw [lawZ_nat] at c_33; rw [if_neg (by rw [c_33]; simp)]; done) | (rw [lawZ_nat] at c_33; rw [if_pos (by rw [c_33, decide_eq_true (by omega)]; rfl)]; done)) (by omega) ls (lv_sub hl [1, 2, 3, 0] rfl)
          · refine lv_iload_n hx hb dX5_ups_36 rfl (lv_at hl 2 rfl) ?_
            refine lv_iload_n hx hb dX5_ups_37 rfl (lv_at hl 3 rfl) ?_
            refine z_cSN (n := 1) (As := [.int (zI ((i : Nat) : Int))]) (rest := [.int (zI (sm))]) C (k_X0_many l D dA (i) (by first | with_reducible assumption | omega | with_reducible rfl)) (List.mem_of_getElem? (i := 3) rfl) q1266 q108 q1265 (by decide +kernel) rfl ⟨Nat.le_of_ble_eq_true rfl, Nat.le_of_ble_eq_true rfl⟩ hl.1 (hP.sub [] rfl) rfl (Nat.le_of_ble_eq_true rfl) dX5_ups_38 (Nat.zero_le _) (Nat.zero_le _) ?_
            refine z_iadd C dX5_ups_41 ?_
            refine lv_istore_n (lv' := [(2, .int (zI ((sm) + ((pop i : Nat) : Int)))), (0, .ref (a)), (1, .int (zI (en))), (3, .int (zI ((i : Nat) : Int)))]) hx hb dX5_ups_42 rfl hl (by decide) rfl (fun ls hl => ?_)
            refine lv_iinc (v := zI ((i + 1 : Nat) : Int)) (lv' := [(3, .int (zI ((i + 1 : Nat) : Int))), (2, .int (zI ((sm) + ((pop i : Nat) : Int)))), (0, .ref (a)), (1, .int (zI (en)))]) hx hb dX5_ups_43 hl (k := 3) rfl (zI_inc (by omega)) (by decide) rfl (fun ls hl => ?_)
            refine lv_goto (tgt := 4) hx hb dX5_ups_46 (by decide) ?_
            exact ih4 (i + 1) (((sm) + ((pop i : Nat) : Int))) (by first | with_reducible assumption | omega | with_reducible rfl) (by simp only [smN]; rw [← hs]; first | (rw [if_neg (by rw [decide_eq_false (by omega), Bool.false_and]; decide)]; done) | (rw [lawZ_nat] at c_33; rw [if_neg (by rw [c_33]; simp)]; done) | (rw [lawZ_nat] at c_33; rw [if_pos (by rw [c_33, decide_eq_true (by omega)]; rfl)]; done)) (by omega) ls (lv_sub hl [2, 3, 1, 0] rfl)
  exact L4 ((nst w le - 0) + 1) (0) (0) (by first | with_reducible assumption | omega | with_reducible rfl) rfl (by omega) ls (lv_sub hl [2, 3, 1, 0] rfl)
set_option maxHeartbeats 600000 in
set_option maxRecDepth 100000 in
theorem k_X5_together (l : Launch) (D : va_G) (dA : Nat → ClassId) (a sp w le rg st sd qa ql qf up dn qe : Nat) (x1 x2 x3 x4 x5 : Value) (lst : Int) (ef : Nat → Int) (k1 k2 : Nat) (en : Int) (hwl : w * le ≤ 16) (hu : up < 65536) (hd : dn < 65536) (be : ∀ j, -1000 ≤ ef j ∧ ef j ≤ 1000) (h1 : zR en) (h2 : k1 < 16) (h3 : k2 < 16) : zM l yX5_together cX5_together 6 (some .int) (zRm 3 61) D dA [.ref (a), .int (zI ((k1 : Nat) : Int)), .int (zI ((k2 : Nat) : Int)), .int (zI (en))] [(a, .inr (5, [.ref (sp), .ref (qe), x1, x2, x3, x4, .int (zI (lst)), x5])), (sp, .inr (4, [.int (zI ((w : Nat) : Int)), .int (zI ((le : Nat) : Int)), .int (zI ((rg : Nat) : Int)), .int (zI ((st : Nat) : Int)), .int (zI ((sd : Nat) : Int)), .ref (qa), .ref (ql), .ref (qf), .int (zI ((up : Nat) : Int)), .int (zI ((dn : Nat) : Int))])), (qe, .inl (dA 2, 65536, .inl (fun jz => zI (ef jz))))] (some (.int (zI (smN (fun s => decide (ef s = en) && law1 w le up dn s) (fun s => twoB s k1 k2) (nst w le))))) := by
  refine zM.of (by decide +kernel) rfl ?_
  intro pp ee ss mm args below meth cd Q C hr hlk hQ hP ls hl
  have hx := C.1.1
  have hb := C.1.2.1
  have hl : lv_has ls 6 [(0, .ref (a)), (1, .int (zI ((k1 : Nat) : Int))), (2, .int (zI ((k2 : Nat) : Int))), (3, .int (zI (en)))] := hl
  have hns : nst w le ≤ 65536 := nst_le hwl
  refine z_iconst C dX5_together_0 ?_
  refine lv_istore (lv' := [(4, .int (zI 0)), (0, .ref (a)), (1, .int (zI ((k1 : Nat) : Int))), (2, .int (zI ((k2 : Nat) : Int))), (3, .int (zI (en)))]) hx hb dX5_together_1 hl (by decide) rfl (fun ls hl => ?_)
  refine z_iconst C dX5_together_3 ?_
  refine lv_istore (lv' := [(5, .int (zI 0)), (4, .int (zI 0)), (0, .ref (a)), (1, .int (zI ((k1 : Nat) : Int))), (2, .int (zI ((k2 : Nat) : Int))), (3, .int (zI (en)))]) hx hb dX5_together_4 hl (by decide) rfl (fun ls hl => ?_)
  have L6 : ∀ (N : Nat) (i : Nat) (sm : Int), (i ≤ nst w le) → (sm = smN (fun s => decide (ef s = en) && law1 w le up dn s) (fun s => twoB s k1 k2) i) → (nst w le - i) < N → ∀ ls : Array Slot, lv_has ls 6 [(0, .ref (a)), (1, .int (zI ((k1 : Nat) : Int))), (2, .int (zI ((k2 : Nat) : Int))), (3, .int (zI (en))), (4, .int (zI (sm))), (5, .int (zI ((i : Nat) : Int)))] → W pp l ee (zRm 3 61) ss mm args below meth cd ss.heap [] 0 0 Q (F0 mm 6 ls []) := by
    intro N
    induction N with
    | zero => intro i sm _ _ hm; exact absurd hm (Nat.not_lt_zero _)
    | succ N ih6 =>
      intro i sm hi hs hmz6 ls hl
      refine lv_iload hx hb dX5_together_6 (lv_at hl 5 rfl) ?_
      refine lv_aload_n hx hb dX5_together_8 rfl (lv_at hl 0 rfl) ?_
      refine z_get C hP 0 rfl rfl in_X5 0 (by decide) q415 rfl dX5_together_9 ?_
      refine z_cV (n := 0) (As := []) (rest := [.int (zI ((i : Nat) : Int))]) C hP (k_X4_states l D dA (sp) (w) (le) (rg) (st) (sd) (qa) (ql) (qf) (up) (dn) (by first | with_reducible assumption | omega | with_reducible rfl)) (lw_V q959 q960 q961 q115 q962) (by decide +kernel) rfl ⟨Nat.le_of_ble_eq_true rfl, Nat.le_of_ble_eq_true rfl⟩ hl.1 (hP.sub [1] rfl) 1 rfl rfl rfl (Nat.le_of_ble_eq_true rfl) dX5_together_12 (Nat.zero_le _) (Nat.zero_le _) ?_
      refine z_icmp_ge (tgt := 72) C ⟨by omega, by omega⟩ ⟨by omega, by omega⟩ dX5_together_15 (by decide) (fun c_15 => ?_) (fun c_15 => ?_)
      · refine lv_iload hx hb dX5_together_72 (lv_at hl 4 rfl) ?_
        exact z_iret C hlk hr hQ (by rw [show nst w le = i by omega, hs]) dX5_together_74
      · refine lv_aload_n hx hb dX5_together_18 rfl (lv_at hl 0 rfl) ?_
        refine z_get C hP 0 rfl rfl in_X5 1 (by decide) q416 rfl dX5_together_19 ?_
        have b9 := be i
        refine lv_iload hx hb dX5_together_22 (lv_at hl 5 rfl) ?_
        refine z_sald C hP 2 rfl (i) rfl (by omega) (by decide) dX5_together_24 ?_
        refine lv_iload_n hx hb dX5_together_25 rfl (lv_at hl 3 rfl) ?_
        refine z_icmp_ne (tgt := 66) C ⟨by omega, by omega⟩ ⟨by omega, by omega⟩ dX5_together_26 (by decide) (fun c_26 => ?_) (fun c_26 => ?_)
        · refine lv_iinc (v := zI ((i + 1 : Nat) : Int)) (lv' := [(5, .int (zI ((i + 1 : Nat) : Int))), (0, .ref (a)), (1, .int (zI ((k1 : Nat) : Int))), (2, .int (zI ((k2 : Nat) : Int))), (3, .int (zI (en))), (4, .int (zI (sm)))]) hx hb dX5_together_66 hl (k := 5) rfl (zI_inc (by omega)) (by decide) rfl (fun ls hl => ?_)
          refine lv_goto (tgt := 6) hx hb dX5_together_69 (by decide) ?_
          exact ih6 (i + 1) ((sm)) (by first | with_reducible assumption | omega | with_reducible rfl) (by simp only [smN]; rw [← hs]; first | (rw [if_neg (by rw [decide_eq_false (by omega), Bool.false_and]; decide)]; done) | (rw [lawZ_nat] at c_38; rw [if_neg (by rw [c_38]; simp)]; done) | (rw [lawZ_nat] at c_38; rw [if_pos (by rw [c_38, decide_eq_true (by omega)]; rfl)]; (unfold twoB; first | (rw [if_pos c_55]; done) | (rw [if_neg c_55]; done)))) (by omega) ls (lv_sub hl [1, 2, 3, 4, 5, 0] rfl)
        · refine lv_aload_n hx hb dX5_together_29 rfl (lv_at hl 0 rfl) ?_
          refine z_get C hP 0 rfl rfl in_X5 0 (by decide) q415 rfl dX5_together_30 ?_
          refine lv_iload hx hb dX5_together_33 (lv_at hl 5 rfl) ?_
          refine z_cV (n := 1) (As := [.int (zI ((i : Nat) : Int))]) (rest := []) C hP (k_X4_isLawful l D dA (sp) (w) (le) (rg) (st) (sd) (qa) (ql) (qf) (up) (dn) (((i : Nat) : Int)) (by first | with_reducible assumption | omega | with_reducible rfl) (by first | with_reducible assumption | omega | with_reducible rfl) (by first | with_reducible assumption | omega | with_reducible rfl) (by first | with_reducible assumption | omega | with_reducible rfl)) (lw_V q988 q989 q990 q115 q991) (by decide +kernel) rfl ⟨Nat.le_of_ble_eq_true rfl, Nat.le_of_ble_eq_true rfl⟩ hl.1 (hP.sub [1] rfl) 1 rfl rfl rfl (Nat.le_of_ble_eq_true rfl) dX5_together_35 (Nat.zero_le _) (Nat.zero_le _) ?_
          refine z_if_eqB (tgt := 66) C dX5_together_38 (by decide) (fun c_38 => ?_) (fun c_38 => ?_)
          · refine lv_iinc (v := zI ((i + 1 : Nat) : Int)) (lv' := [(5, .int (zI ((i + 1 : Nat) : Int))), (0, .ref (a)), (1, .int (zI ((k1 : Nat) : Int))), (2, .int (zI ((k2 : Nat) : Int))), (3, .int (zI (en))), (4, .int (zI (sm)))]) hx hb dX5_together_66 hl (k := 5) rfl (zI_inc (by omega)) (by decide) rfl (fun ls hl => ?_)
            refine lv_goto (tgt := 6) hx hb dX5_together_69 (by decide) ?_
            exact ih6 (i + 1) ((sm)) (by first | with_reducible assumption | omega | with_reducible rfl) (by simp only [smN]; rw [← hs]; first | (rw [if_neg (by rw [decide_eq_false (by omega), Bool.false_and]; decide)]; done) | (rw [lawZ_nat] at c_38; rw [if_neg (by rw [c_38]; simp)]; done) | (rw [lawZ_nat] at c_38; rw [if_pos (by rw [c_38, decide_eq_true (by omega)]; rfl)]; (unfold twoB; first | (rw [if_pos c_55]; done) | (rw [if_neg c_55]; done)))) (by omega) ls (lv_sub hl [1, 2, 3, 4, 5, 0] rfl)
          · refine lv_iload hx hb dX5_together_41 (lv_at hl 4 rfl) ?_
            refine lv_iload hx hb dX5_together_43 (lv_at hl 5 rfl) ?_
            refine lv_iload_n hx hb dX5_together_45 rfl (lv_at hl 1 rfl) ?_
            refine z_cSN (n := 2) (As := [.int (zI ((i : Nat) : Int)), .int (zI ((k1 : Nat) : Int))]) (rest := [.int (zI (sm))]) C (k_X0_has l D dA (i) (k1) (by first | with_reducible assumption | omega | with_reducible rfl) (by first | with_reducible assumption | omega | with_reducible rfl)) (List.mem_of_getElem? (i := 5) rfl) q789 q108 q788 (by decide +kernel) rfl ⟨Nat.le_of_ble_eq_true rfl, Nat.le_of_ble_eq_true rfl⟩ hl.1 (hP.sub [] rfl) rfl (Nat.le_of_ble_eq_true rfl) dX5_together_46 (Nat.zero_le _) (Nat.zero_le _) ?_
            refine lv_iload hx hb dX5_together_49 (lv_at hl 5 rfl) ?_
            refine lv_iload_n hx hb dX5_together_51 rfl (lv_at hl 2 rfl) ?_
            refine z_cSN (n := 2) (As := [.int (zI ((i : Nat) : Int)), .int (zI ((k2 : Nat) : Int))]) (rest := [.int (zB (i.testBit k1)), .int (zI (sm))]) C (k_X0_has l D dA (i) (k2) (by first | with_reducible assumption | omega | with_reducible rfl) (by first | with_reducible assumption | omega | with_reducible rfl)) (List.mem_of_getElem? (i := 5) rfl) q789 q108 q788 (by decide +kernel) rfl ⟨Nat.le_of_ble_eq_true rfl, Nat.le_of_ble_eq_true rfl⟩ hl.1 (hP.sub [] rfl) rfl (Nat.le_of_ble_eq_true rfl) dX5_together_52 (Nat.zero_le _) (Nat.zero_le _) ?_
            refine z_icmp_neB (tgt := 62) C dX5_together_55 (by decide) (fun c_55 => ?_) (fun c_55 => ?_)
            · refine z_iconst C dX5_together_62 ?_
              refine z_iadd C dX5_together_63 ?_
              refine lv_istore (lv' := [(4, .int (zI ((sm) + (-1)))), (0, .ref (a)), (1, .int (zI ((k1 : Nat) : Int))), (2, .int (zI ((k2 : Nat) : Int))), (3, .int (zI (en))), (5, .int (zI ((i : Nat) : Int)))]) hx hb dX5_together_64 hl (by decide) rfl (fun ls hl => ?_)
              refine lv_iinc (v := zI ((i + 1 : Nat) : Int)) (lv' := [(5, .int (zI ((i + 1 : Nat) : Int))), (4, .int (zI ((sm) + (-1)))), (0, .ref (a)), (1, .int (zI ((k1 : Nat) : Int))), (2, .int (zI ((k2 : Nat) : Int))), (3, .int (zI (en)))]) hx hb dX5_together_66 hl (k := 5) rfl (zI_inc (by omega)) (by decide) rfl (fun ls hl => ?_)
              refine lv_goto (tgt := 6) hx hb dX5_together_69 (by decide) ?_
              exact ih6 (i + 1) (((sm) + (-1))) (by first | with_reducible assumption | omega | with_reducible rfl) (by simp only [smN]; rw [← hs]; first | (rw [if_neg (by rw [decide_eq_false (by omega), Bool.false_and]; decide)]; done) | (rw [lawZ_nat] at c_38; rw [if_neg (by rw [c_38]; simp)]; done) | (rw [lawZ_nat] at c_38; rw [if_pos (by rw [c_38, decide_eq_true (by omega)]; rfl)]; (unfold twoB; first | (rw [if_pos c_55]; done) | (rw [if_neg c_55]; done)))) (by omega) ls (lv_sub hl [2, 3, 4, 5, 1, 0] rfl)
            · refine z_iconst C dX5_together_58 ?_
              refine lv_goto (tgt := 63) hx hb dX5_together_59 (by decide) ?_
              refine z_iadd C dX5_together_63 ?_
              refine lv_istore (lv' := [(4, .int (zI ((sm) + 1))), (0, .ref (a)), (1, .int (zI ((k1 : Nat) : Int))), (2, .int (zI ((k2 : Nat) : Int))), (3, .int (zI (en))), (5, .int (zI ((i : Nat) : Int)))]) hx hb dX5_together_64 hl (by decide) rfl (fun ls hl => ?_)
              refine lv_iinc (v := zI ((i + 1 : Nat) : Int)) (lv' := [(5, .int (zI ((i + 1 : Nat) : Int))), (4, .int (zI ((sm) + 1))), (0, .ref (a)), (1, .int (zI ((k1 : Nat) : Int))), (2, .int (zI ((k2 : Nat) : Int))), (3, .int (zI (en)))]) hx hb dX5_together_66 hl (k := 5) rfl (zI_inc (by omega)) (by decide) rfl (fun ls hl => ?_)
              refine lv_goto (tgt := 6) hx hb dX5_together_69 (by decide) ?_
              exact ih6 (i + 1) (((sm) + 1)) (by first | with_reducible assumption | omega | with_reducible rfl) (by simp only [smN]; rw [← hs]; first | (rw [if_neg (by rw [decide_eq_false (by omega), Bool.false_and]; decide)]; done) | (rw [lawZ_nat] at c_38; rw [if_neg (by rw [c_38]; simp)]; done) | (rw [lawZ_nat] at c_38; rw [if_pos (by rw [c_38, decide_eq_true (by omega)]; rfl)]; (unfold twoB; first | (rw [if_pos c_55]; done) | (rw [if_neg c_55]; done)))) (by omega) ls (lv_sub hl [2, 3, 4, 5, 1, 0] rfl)
  exact L6 ((nst w le - 0) + 1) (0) (0) (by first | with_reducible assumption | omega | with_reducible rfl) rfl (by omega) ls (lv_sub hl [2, 3, 4, 5, 1, 0] rfl)
set_option maxHeartbeats 600000 in
set_option maxRecDepth 100000 in
theorem k_X5_both (l : Launch) (D : va_G) (dA : Nat → ClassId) (a sp w le rg st sd qa ql qf up dn qe : Nat) (x1 x2 x3 x4 x5 : Value) (lst : Int) (ef : Nat → Int) (en up2 : Int) (hwl : w * le ≤ 16) (hu : up < 65536) (hd : dn < 65536) (be : ∀ j, -1000 ≤ ef j ∧ ef j ≤ 1000) (h1 : zR en) (h2 : zR up2) : zM l yX5_both cX5_both 5 (some .int) (zRm 3 61) D dA [.ref (a), .int (zI (en)), .int (zI (up2))] [(a, .inr (5, [.ref (sp), .ref (qe), x1, x2, x3, x4, .int (zI (lst)), x5])), (sp, .inr (4, [.int (zI ((w : Nat) : Int)), .int (zI ((le : Nat) : Int)), .int (zI ((rg : Nat) : Int)), .int (zI ((st : Nat) : Int)), .int (zI ((sd : Nat) : Int)), .ref (qa), .ref (ql), .ref (qf), .int (zI ((up : Nat) : Int)), .int (zI ((dn : Nat) : Int))])), (qe, .inl (dA 2, 65536, .inl (fun jz => zI (ef jz))))] (some (.int (zI ((cntN (fun s => decide (ef s = en) && (decide (((pop s : Nat) : Int) = up2) && law1 w le up dn s)) (nst w le) : Nat) : Int)))) := by
  refine zM.of (by decide +kernel) rfl ?_
  intro pp ee ss mm args below meth cd Q C hr hlk hQ hP ls hl
  have hx := C.1.1
  have hb := C.1.2.1
  have hl : lv_has ls 5 [(0, .ref (a)), (1, .int (zI (en))), (2, .int (zI (up2)))] := hl
  have hns : nst w le ≤ 65536 := nst_le hwl
  refine z_iconst C dX5_both_0 ?_
  refine lv_istore_n (lv' := [(3, .int (zI 0)), (0, .ref (a)), (1, .int (zI (en))), (2, .int (zI (up2)))]) hx hb dX5_both_1 rfl hl (by decide) rfl (fun ls hl => ?_)
  refine z_iconst C dX5_both_2 ?_
  refine lv_istore (lv' := [(4, .int (zI 0)), (3, .int (zI 0)), (0, .ref (a)), (1, .int (zI (en))), (2, .int (zI (up2)))]) hx hb dX5_both_3 hl (by decide) rfl (fun ls hl => ?_)
  have L5 : ∀ (N : Nat) (i nn : Nat), (i ≤ nst w le) → (nn = cntN (fun s => decide (ef s = en) && (decide (((pop s : Nat) : Int) = up2) && law1 w le up dn s)) i) → (nn ≤ i) → (nst w le - i) < N → ∀ ls : Array Slot, lv_has ls 5 [(0, .ref (a)), (1, .int (zI (en))), (2, .int (zI (up2))), (3, .int (zI ((nn : Nat) : Int))), (4, .int (zI ((i : Nat) : Int)))] → W pp l ee (zRm 3 61) ss mm args below meth cd ss.heap [] 0 0 Q (F0 mm 5 ls []) := by
    intro N
    induction N with
    | zero => intro i nn _ _ _ hm; exact absurd hm (Nat.not_lt_zero _)
    | succ N ih5 =>
      intro i nn hi hs hni hmz5 ls hl
      refine lv_iload hx hb dX5_both_5 (lv_at hl 4 rfl) ?_
      refine lv_aload_n hx hb dX5_both_7 rfl (lv_at hl 0 rfl) ?_
      refine z_get C hP 0 rfl rfl in_X5 0 (by decide) q415 rfl dX5_both_8 ?_
      refine z_cV (n := 0) (As := []) (rest := [.int (zI ((i : Nat) : Int))]) C hP (k_X4_states l D dA (sp) (w) (le) (rg) (st) (sd) (qa) (ql) (qf) (up) (dn) (by first | with_reducible assumption | omega | with_reducible rfl)) (lw_V q959 q960 q961 q115 q962) (by decide +kernel) rfl ⟨Nat.le_of_ble_eq_true rfl, Nat.le_of_ble_eq_true rfl⟩ hl.1 (hP.sub [1] rfl) 1 rfl rfl rfl (Nat.le_of_ble_eq_true rfl) dX5_both_11 (Nat.zero_le _) (Nat.zero_le _) ?_
      refine z_icmp_ge (tgt := 63) C ⟨by omega, by omega⟩ ⟨by omega, by omega⟩ dX5_both_14 (by decide) (fun c_14 => ?_) (fun c_14 => ?_)
      · refine lv_iload_n hx hb dX5_both_63 rfl (lv_at hl 3 rfl) ?_
        exact z_iret C hlk hr hQ (by rw [show nst w le = i by omega, hs]) dX5_both_64
      · refine lv_iload_n hx hb dX5_both_17 rfl (lv_at hl 3 rfl) ?_
        refine lv_aload_n hx hb dX5_both_18 rfl (lv_at hl 0 rfl) ?_
        refine z_get C hP 0 rfl rfl in_X5 1 (by decide) q416 rfl dX5_both_19 ?_
        have b9 := be i
        have p9 : pop i ≤ 32 := pcf_le 32 i
        refine lv_iload hx hb dX5_both_22 (lv_at hl 4 rfl) ?_
        refine z_sald C hP 2 rfl (i) rfl (by omega) (by decide) dX5_both_24 ?_
        refine lv_iload_n hx hb dX5_both_25 rfl (lv_at hl 1 rfl) ?_
        refine z_icmp_ne (tgt := 54) C ⟨by omega, by omega⟩ ⟨by omega, by omega⟩ dX5_both_26 (by decide) (fun c_26 => ?_) (fun c_26 => ?_)
        · refine z_iconst C dX5_both_54 ?_
          refine z_iaddN C (nn) (0) rfl rfl dX5_both_55 ?_
          refine lv_istore_n (lv' := [(3, .int (zI (((nn + 0) : Nat) : Int))), (0, .ref (a)), (1, .int (zI (en))), (2, .int (zI (up2))), (4, .int (zI ((i : Nat) : Int)))]) hx hb dX5_both_56 rfl hl (by decide) rfl (fun ls hl => ?_)
          refine lv_iinc (v := zI ((i + 1 : Nat) : Int)) (lv' := [(4, .int (zI ((i + 1 : Nat) : Int))), (3, .int (zI (((nn + 0) : Nat) : Int))), (0, .ref (a)), (1, .int (zI (en))), (2, .int (zI (up2)))]) hx hb dX5_both_57 hl (k := 4) rfl (zI_inc (by omega)) (by decide) rfl (fun ls hl => ?_)
          refine lv_goto (tgt := 5) hx hb dX5_both_60 (by decide) ?_
          exact ih5 (i + 1) ((nn + 0)) (by first | with_reducible assumption | omega | with_reducible rfl) (by first | (rw [cntN_f (by rw [decide_eq_false (by omega), Bool.false_and]), hs]; rfl) | (rw [cntN_f (by rw [decide_eq_false (show ¬ ((pop i : Nat) : Int) = up2 by omega), Bool.false_and, Bool.and_false]), hs]; rfl) | (rw [lawZ_nat] at c_47; first | (rw [cntN_f (by rw [c_47, Bool.and_false, Bool.and_false]), hs]; rfl) | rw [cntN_t (by rw [c_47, decide_eq_true (by omega), decide_eq_true (by omega)]; rfl), hs])) (by first | with_reducible assumption | omega | with_reducible rfl) (by omega) ls (lv_sub hl [2, 3, 4, 1, 0] rfl)
        · refine lv_iload hx hb dX5_both_29 (lv_at hl 4 rfl) ?_
          refine z_cSN (n := 1) (As := [.int (zI ((i : Nat) : Int))]) (rest := [.int (zI ((nn : Nat) : Int))]) C (k_X0_many l D dA (i) (by first | with_reducible assumption | omega | with_reducible rfl)) (List.mem_of_getElem? (i := 3) rfl) q1266 q108 q1265 (by decide +kernel) rfl ⟨Nat.le_of_ble_eq_true rfl, Nat.le_of_ble_eq_true rfl⟩ hl.1 (hP.sub [] rfl) rfl (Nat.le_of_ble_eq_true rfl) dX5_both_31 (Nat.zero_le _) (Nat.zero_le _) ?_
          refine lv_iload_n hx hb dX5_both_34 rfl (lv_at hl 2 rfl) ?_
          refine z_icmp_ne (tgt := 54) C ⟨by omega, by omega⟩ ⟨by omega, by omega⟩ dX5_both_35 (by decide) (fun c_35 => ?_) (fun c_35 => ?_)
          · refine z_iconst C dX5_both_54 ?_
            refine z_iaddN C (nn) (0) rfl rfl dX5_both_55 ?_
            refine lv_istore_n (lv' := [(3, .int (zI (((nn + 0) : Nat) : Int))), (0, .ref (a)), (1, .int (zI (en))), (2, .int (zI (up2))), (4, .int (zI ((i : Nat) : Int)))]) hx hb dX5_both_56 rfl hl (by decide) rfl (fun ls hl => ?_)
            refine lv_iinc (v := zI ((i + 1 : Nat) : Int)) (lv' := [(4, .int (zI ((i + 1 : Nat) : Int))), (3, .int (zI (((nn + 0) : Nat) : Int))), (0, .ref (a)), (1, .int (zI (en))), (2, .int (zI (up2)))]) hx hb dX5_both_57 hl (k := 4) rfl (zI_inc (by omega)) (by decide) rfl (fun ls hl => ?_)
            refine lv_goto (tgt := 5) hx hb dX5_both_60 (by decide) ?_
            exact ih5 (i + 1) ((nn + 0)) (by first | with_reducible assumption | omega | with_reducible rfl) (by first | (rw [cntN_f (by rw [decide_eq_false (by omega), Bool.false_and]), hs]; rfl) | (rw [cntN_f (by rw [decide_eq_false (show ¬ ((pop i : Nat) : Int) = up2 by omega), Bool.false_and, Bool.and_false]), hs]; rfl) | (rw [lawZ_nat] at c_47; first | (rw [cntN_f (by rw [c_47, Bool.and_false, Bool.and_false]), hs]; rfl) | rw [cntN_t (by rw [c_47, decide_eq_true (by omega), decide_eq_true (by omega)]; rfl), hs])) (by first | with_reducible assumption | omega | with_reducible rfl) (by omega) ls (lv_sub hl [2, 3, 4, 1, 0] rfl)
          · refine lv_aload_n hx hb dX5_both_38 rfl (lv_at hl 0 rfl) ?_
            refine z_get C hP 0 rfl rfl in_X5 0 (by decide) q415 rfl dX5_both_39 ?_
            refine lv_iload hx hb dX5_both_42 (lv_at hl 4 rfl) ?_
            refine z_cV (n := 1) (As := [.int (zI ((i : Nat) : Int))]) (rest := [.int (zI ((nn : Nat) : Int))]) C hP (k_X4_isLawful l D dA (sp) (w) (le) (rg) (st) (sd) (qa) (ql) (qf) (up) (dn) (((i : Nat) : Int)) (by first | with_reducible assumption | omega | with_reducible rfl) (by first | with_reducible assumption | omega | with_reducible rfl) (by first | with_reducible assumption | omega | with_reducible rfl) (by first | with_reducible assumption | omega | with_reducible rfl)) (lw_V q988 q989 q990 q115 q991) (by decide +kernel) rfl ⟨Nat.le_of_ble_eq_true rfl, Nat.le_of_ble_eq_true rfl⟩ hl.1 (hP.sub [1] rfl) 1 rfl rfl rfl (Nat.le_of_ble_eq_true rfl) dX5_both_44 (Nat.zero_le _) (Nat.zero_le _) ?_
            refine z_if_eqB (tgt := 54) C dX5_both_47 (by decide) (fun c_47 => ?_) (fun c_47 => ?_)
            · refine z_iconst C dX5_both_54 ?_
              refine z_iaddN C (nn) (0) rfl rfl dX5_both_55 ?_
              refine lv_istore_n (lv' := [(3, .int (zI (((nn + 0) : Nat) : Int))), (0, .ref (a)), (1, .int (zI (en))), (2, .int (zI (up2))), (4, .int (zI ((i : Nat) : Int)))]) hx hb dX5_both_56 rfl hl (by decide) rfl (fun ls hl => ?_)
              refine lv_iinc (v := zI ((i + 1 : Nat) : Int)) (lv' := [(4, .int (zI ((i + 1 : Nat) : Int))), (3, .int (zI (((nn + 0) : Nat) : Int))), (0, .ref (a)), (1, .int (zI (en))), (2, .int (zI (up2)))]) hx hb dX5_both_57 hl (k := 4) rfl (zI_inc (by omega)) (by decide) rfl (fun ls hl => ?_)
              refine lv_goto (tgt := 5) hx hb dX5_both_60 (by decide) ?_
              exact ih5 (i + 1) ((nn + 0)) (by first | with_reducible assumption | omega | with_reducible rfl) (by first | (rw [cntN_f (by rw [decide_eq_false (by omega), Bool.false_and]), hs]; rfl) | (rw [cntN_f (by rw [decide_eq_false (show ¬ ((pop i : Nat) : Int) = up2 by omega), Bool.false_and, Bool.and_false]), hs]; rfl) | (rw [lawZ_nat] at c_47; first | (rw [cntN_f (by rw [c_47, Bool.and_false, Bool.and_false]), hs]; rfl) | rw [cntN_t (by rw [c_47, decide_eq_true (by omega), decide_eq_true (by omega)]; rfl), hs])) (by first | with_reducible assumption | omega | with_reducible rfl) (by omega) ls (lv_sub hl [2, 3, 4, 1, 0] rfl)
            · refine z_iconst C dX5_both_50 ?_
              refine lv_goto (tgt := 55) hx hb dX5_both_51 (by decide) ?_
              refine z_iaddN C (nn) (1) rfl rfl dX5_both_55 ?_
              refine lv_istore_n (lv' := [(3, .int (zI (((nn + 1) : Nat) : Int))), (0, .ref (a)), (1, .int (zI (en))), (2, .int (zI (up2))), (4, .int (zI ((i : Nat) : Int)))]) hx hb dX5_both_56 rfl hl (by decide) rfl (fun ls hl => ?_)
              refine lv_iinc (v := zI ((i + 1 : Nat) : Int)) (lv' := [(4, .int (zI ((i + 1 : Nat) : Int))), (3, .int (zI (((nn + 1) : Nat) : Int))), (0, .ref (a)), (1, .int (zI (en))), (2, .int (zI (up2)))]) hx hb dX5_both_57 hl (k := 4) rfl (zI_inc (by omega)) (by decide) rfl (fun ls hl => ?_)
              refine lv_goto (tgt := 5) hx hb dX5_both_60 (by decide) ?_
              exact ih5 (i + 1) ((nn + 1)) (by first | with_reducible assumption | omega | with_reducible rfl) (by first | (rw [cntN_f (by rw [decide_eq_false (by omega), Bool.false_and]), hs]; rfl) | (rw [cntN_f (by rw [decide_eq_false (show ¬ ((pop i : Nat) : Int) = up2 by omega), Bool.false_and, Bool.and_false]), hs]; rfl) | (rw [lawZ_nat] at c_47; first | (rw [cntN_f (by rw [c_47, Bool.and_false, Bool.and_false]), hs]; rfl) | rw [cntN_t (by rw [c_47, decide_eq_true (by omega), decide_eq_true (by omega)]; rfl), hs])) (by first | with_reducible assumption | omega | with_reducible rfl) (by omega) ls (lv_sub hl [2, 3, 4, 1, 0] rfl)
  exact L5 ((nst w le - 0) + 1) (0) (0) (by first | with_reducible assumption | omega | with_reducible rfl) rfl (by first | with_reducible assumption | omega | with_reducible rfl) (by omega) ls (lv_sub hl [2, 3, 4, 1, 0] rfl)
set_option maxHeartbeats 600000 in
set_option maxRecDepth 100000 in
theorem k_X5_falls (l : Launch) (D : va_G) (dA : Nat → ClassId) (a sp w le rg st sd qa ql qf up dn qe : Nat) (x1 x2 x3 x4 x5 : Value) (lst : Int) (ef : Nat → Int) (x : Nat) (hwl : w * le ≤ 16) (hu : up < 65536) (hd : dn < 65536) (be : ∀ j, -1000 ≤ ef j ∧ ef j ≤ 1000) (hxx : x < 2 ^ (w * le)) : zM l yX5_falls cX5_falls 5 (some .int) (zRm 2 42) D dA [.ref (a), .int (zI ((x : Nat) : Int))] [(a, .inr (5, [.ref (sp), .ref (qe), x1, x2, x3, x4, .int (zI (lst)), x5])), (sp, .inr (4, [.int (zI ((w : Nat) : Int)), .int (zI ((le : Nat) : Int)), .int (zI ((rg : Nat) : Int)), .int (zI ((st : Nat) : Int)), .int (zI ((sd : Nat) : Int)), .ref (qa), .ref (ql), .ref (qf), .int (zI ((up : Nat) : Int)), .int (zI ((dn : Nat) : Int))])), (qe, .inl (dA 2, 65536, .inl (fun jz => zI (ef jz))))] (some (.int (zI (cfN ef (fun k => (up ||| dn).testBit k) x (w * le))))) := by
  refine zM.of (by decide +kernel) rfl ?_
  intro pp ee ss mm args below meth cd Q C hr hlk hQ hP ls hl
  have hx := C.1.1
  have hb := C.1.2.1
  have hl : lv_has ls 5 [(0, .ref (a)), (1, .int (zI ((x : Nat) : Int)))] := hl
  have hp16 : 2 ^ (w * le) ≤ 2 ^ 16 := Nat.pow_le_pow_right (by decide) hwl
  have b0 := be x
  refine z_iconst C dX5_falls_0 ?_
  refine lv_istore_n (lv' := [(2, .int (zI (-1))), (0, .ref (a)), (1, .int (zI ((x : Nat) : Int)))]) hx hb dX5_falls_1 rfl hl (by decide) rfl (fun ls hl => ?_)
  refine z_iconst C dX5_falls_2 ?_
  refine lv_istore_n (lv' := [(3, .int (zI 0)), (2, .int (zI (-1))), (0, .ref (a)), (1, .int (zI ((x : Nat) : Int)))]) hx hb dX5_falls_3 rfl hl (by decide) rfl (fun ls hl => ?_)
  have L4 : ∀ (N : Nat) (k : Nat) (bs : Int), (k ≤ w * le) → (bs = cfN ef (fun k => (up ||| dn).testBit k) x k) → (-1 ≤ bs ∧ bs < k) → (w * le - k) < N → ∀ ls : Array Slot, lv_has ls 5 [(0, .ref (a)), (1, .int (zI ((x : Nat) : Int))), (2, .int (zI (bs))), (3, .int (zI ((k : Nat) : Int)))] → W pp l ee (zRm 2 42) ss mm args below meth cd ss.heap [] 0 0 Q (F0 mm 4 ls []) := by
    intro N
    induction N with
    | zero => intro k bs _ _ _ hm; exact absurd hm (Nat.not_lt_zero _)
    | succ N ih4 =>
      intro k bs hk hs hb9 hmz4 ls hl
      refine lv_iload_n hx hb dX5_falls_4 rfl (lv_at hl 3 rfl) ?_
      refine lv_aload_n hx hb dX5_falls_5 rfl (lv_at hl 0 rfl) ?_
      refine z_get C hP 0 rfl rfl in_X5 0 (by decide) q415 rfl dX5_falls_6 ?_
      refine z_cV (n := 0) (As := []) (rest := [.int (zI ((k : Nat) : Int))]) C hP (k_X4_sites l D dA (sp) (w) (le) (rg) (st) (sd) (qa) (ql) (qf) (up) (dn)) (lw_V q1380 q766 q767 q115 q768) (by decide +kernel) rfl ⟨Nat.le_of_ble_eq_true rfl, Nat.le_of_ble_eq_true rfl⟩ hl.1 (hP.sub [1] rfl) 1 rfl rfl rfl (Nat.le_of_ble_eq_true rfl) dX5_falls_9 (Nat.zero_le _) (Nat.zero_le _) ?_
      refine z_icmp_ge (tgt := 76) C ⟨by omega, by omega⟩ ⟨by omega, by omega⟩ dX5_falls_12 (by decide) (fun c_12 => ?_) (fun c_12 => ?_)
      · refine lv_iload_n hx hb dX5_falls_76 rfl (lv_at hl 2 rfl) ?_
        exact z_iret C hlk hr hQ (by rw [show w * le = k by omega, hs]) dX5_falls_77
      · have x9 := x_lt hxx (show k < w * le by omega)
        have b9 := be (x ^^^ 2 ^ k)
        refine lv_aload_n hx hb dX5_falls_15 rfl (lv_at hl 0 rfl) ?_
        refine z_get C hP 0 rfl rfl in_X5 1 (by decide) q416 rfl dX5_falls_16 ?_
        refine lv_iload_n hx hb dX5_falls_19 rfl (lv_at hl 1 rfl) ?_
        refine z_iconst C dX5_falls_20 ?_
        refine lv_iload_n hx hb dX5_falls_21 rfl (lv_at hl 3 rfl) ?_
        refine z_ishl1 C (k) rfl rfl (by omega) dX5_falls_22 ?_
        refine z_ixor C (x) ((2 ^ k)) rfl rfl dX5_falls_23 ?_
        refine z_sald C hP 2 rfl ((x ^^^ (2 ^ k))) rfl (by omega) (by decide) dX5_falls_24 ?_
        refine lv_istore (lv' := [(4, .int (zI (ef (x ^^^ (2 ^ k))))), (0, .ref (a)), (1, .int (zI ((x : Nat) : Int))), (2, .int (zI (bs))), (3, .int (zI ((k : Nat) : Int)))]) hx hb dX5_falls_25 hl (by decide) rfl (fun ls hl => ?_)
        refine lv_aload_n hx hb dX5_falls_27 rfl (lv_at hl 1 rfl) ?_
        refine z_get C hP 0 rfl rfl in_X5 0 (by decide) q415 rfl dX5_falls_28 ?_
        refine lv_iload_n hx hb dX5_falls_31 rfl (lv_at hl 4 rfl) ?_
        refine z_cV (n := 1) (As := [.int (zI ((k : Nat) : Int))]) (rest := []) C hP (k_X4_isPinned l D dA (sp) (w) (le) (rg) (st) (sd) (qa) (ql) (qf) (up) (dn) (k) (by first | with_reducible assumption | omega | with_reducible rfl) (by first | with_reducible assumption | omega | with_reducible rfl) (by first | with_reducible assumption | omega | with_reducible rfl)) (lw_V q1381 q936 q937 q115 q938) (by decide +kernel) rfl ⟨Nat.le_of_ble_eq_true rfl, Nat.le_of_ble_eq_true rfl⟩ hl.1 (hP.sub [1] rfl) 1 rfl rfl rfl (Nat.le_of_ble_eq_true rfl) dX5_falls_32 (Nat.zero_le _) (Nat.zero_le _) ?_
        refine z_if_neB (tgt := 70) C dX5_falls_35 (by decide) (fun c_35 => ?_) (fun c_35 => ?_)
        · refine lv_iinc (v := zI ((k + 1 : Nat) : Int)) (lv' := [(3, .int (zI ((k + 1 : Nat) : Int))), (4, .int (zI (ef (x ^^^ (2 ^ k))))), (0, .ref (a)), (1, .int (zI ((x : Nat) : Int))), (2, .int (zI (bs)))]) hx hb dX5_falls_70 hl (k := 4) rfl (zI_inc (by omega)) (by decide) rfl (fun ls hl => ?_)
          refine lv_goto (tgt := 4) hx hb dX5_falls_73 (by decide) ?_
          exact ih4 (k + 1) ((bs)) (by first | with_reducible assumption | omega | with_reducible rfl) (by simp only [cfN]; rw [← hs]; first | (rw [if_neg (fun q => by rw [c_35] at q; exact absurd q.1 (by decide))]; done) | (rw [if_neg (fun q => by have := q.2.1; omega)]; done) | (rw [if_pos ⟨c_35, by omega, Or.inl (by omega)⟩]; done) | (rw [if_pos ⟨c_35, by omega, Or.inr (by rw [Int.toNat_natCast]; omega)⟩]; done) | (rw [if_neg (fun q => by rcases q.2.2 with y | y; omega; rw [Int.toNat_natCast] at y; omega)]; done)) (by first | with_reducible assumption | omega | with_reducible rfl) (by omega) ls (lv_sub hl [2, 3, 4, 0] rfl)
        · refine lv_iload hx hb dX5_falls_38 (lv_at hl 0 rfl) ?_
          refine lv_aload_n hx hb dX5_falls_40 rfl (lv_at hl 1 rfl) ?_
          refine z_get C hP 0 rfl rfl in_X5 1 (by decide) q416 rfl dX5_falls_41 ?_
          refine lv_iload_n hx hb dX5_falls_44 rfl (lv_at hl 2 rfl) ?_
          refine z_sald C hP 2 rfl (x) rfl (by omega) (by decide) dX5_falls_45 ?_
          refine z_icmp_ge (tgt := 70) C ⟨by omega, by omega⟩ ⟨by omega, by omega⟩ dX5_falls_46 (by decide) (fun c_46 => ?_) (fun c_46 => ?_)
          · refine lv_iinc (v := zI ((k + 1 : Nat) : Int)) (lv' := [(3, .int (zI ((k + 1 : Nat) : Int))), (4, .int (zI (ef (x ^^^ (2 ^ k))))), (0, .ref (a)), (1, .int (zI ((x : Nat) : Int))), (2, .int (zI (bs)))]) hx hb dX5_falls_70 hl (k := 4) rfl (zI_inc (by omega)) (by decide) rfl (fun ls hl => ?_)
            refine lv_goto (tgt := 4) hx hb dX5_falls_73 (by decide) ?_
            exact ih4 (k + 1) ((bs)) (by first | with_reducible assumption | omega | with_reducible rfl) (by simp only [cfN]; rw [← hs]; first | (rw [if_neg (fun q => by rw [c_35] at q; exact absurd q.1 (by decide))]; done) | (rw [if_neg (fun q => by have := q.2.1; omega)]; done) | (rw [if_pos ⟨c_35, by omega, Or.inl (by omega)⟩]; done) | (rw [if_pos ⟨c_35, by omega, Or.inr (by rw [Int.toNat_natCast]; omega)⟩]; done) | (rw [if_neg (fun q => by rcases q.2.2 with y | y; omega; rw [Int.toNat_natCast] at y; omega)]; done)) (by first | with_reducible assumption | omega | with_reducible rfl) (by omega) ls (lv_sub hl [2, 3, 4, 0] rfl)
          · refine lv_iload_n hx hb dX5_falls_49 rfl (lv_at hl 3 rfl) ?_
            refine z_if_lt (tgt := 68) C ⟨by omega, by omega⟩ dX5_falls_50 (by decide) (fun c_50 => ?_) (fun c_50 => ?_)
            · refine lv_iload_n hx hb dX5_falls_68 rfl (lv_at hl 4 rfl) ?_
              refine lv_istore_n (lv' := [(2, .int (zI ((k : Nat) : Int))), (4, .int (zI (ef (x ^^^ (2 ^ k))))), (0, .ref (a)), (1, .int (zI ((x : Nat) : Int))), (3, .int (zI ((k : Nat) : Int)))]) hx hb dX5_falls_69 rfl hl (by decide) rfl (fun ls hl => ?_)
              refine lv_iinc (v := zI ((k + 1 : Nat) : Int)) (lv' := [(3, .int (zI ((k + 1 : Nat) : Int))), (2, .int (zI ((k : Nat) : Int))), (4, .int (zI (ef (x ^^^ (2 ^ k))))), (0, .ref (a)), (1, .int (zI ((x : Nat) : Int)))]) hx hb dX5_falls_70 hl (k := 4) rfl (zI_inc (by omega)) (by decide) rfl (fun ls hl => ?_)
              refine lv_goto (tgt := 4) hx hb dX5_falls_73 (by decide) ?_
              exact ih4 (k + 1) (((k : Nat) : Int)) (by first | with_reducible assumption | omega | with_reducible rfl) (by simp only [cfN]; rw [← hs]; first | (rw [if_neg (fun q => by rw [c_35] at q; exact absurd q.1 (by decide))]; done) | (rw [if_neg (fun q => by have := q.2.1; omega)]; done) | (rw [if_pos ⟨c_35, by omega, Or.inl (by omega)⟩]; done) | (rw [if_pos ⟨c_35, by omega, Or.inr (by rw [Int.toNat_natCast]; omega)⟩]; done) | (rw [if_neg (fun q => by rcases q.2.2 with y | y; omega; rw [Int.toNat_natCast] at y; omega)]; done)) (by first | with_reducible assumption | omega | with_reducible rfl) (by omega) ls (lv_sub hl [3, 4, 1, 0] rfl)
            · obtain ⟨bn, rfl⟩ : ∃ q : Nat, bs = (q : Int) := ⟨bs.toNat, by omega⟩
              have x8 := x_lt hxx (show bn < w * le by omega)
              have b8 := be (x ^^^ 2 ^ bn)
              refine lv_iload hx hb dX5_falls_53 (lv_at hl 0 rfl) ?_
              refine lv_aload_n hx hb dX5_falls_55 rfl (lv_at hl 1 rfl) ?_
              refine z_get C hP 0 rfl rfl in_X5 1 (by decide) q416 rfl dX5_falls_56 ?_
              refine lv_iload_n hx hb dX5_falls_59 rfl (lv_at hl 2 rfl) ?_
              refine z_iconst C dX5_falls_60 ?_
              refine lv_iload_n hx hb dX5_falls_61 rfl (lv_at hl 3 rfl) ?_
              refine z_ishl1 C (bn) rfl rfl (by omega) dX5_falls_62 ?_
              refine z_ixor C (x) ((2 ^ bn)) rfl rfl dX5_falls_63 ?_
              refine z_sald C hP 2 rfl ((x ^^^ (2 ^ bn))) rfl (by omega) (by decide) dX5_falls_64 ?_
              refine z_icmp_ge (tgt := 70) C ⟨by omega, by omega⟩ ⟨by omega, by omega⟩ dX5_falls_65 (by decide) (fun c_65 => ?_) (fun c_65 => ?_)
              · refine lv_iinc (v := zI ((k + 1 : Nat) : Int)) (lv' := [(3, .int (zI ((k + 1 : Nat) : Int))), (4, .int (zI (ef (x ^^^ (2 ^ k))))), (0, .ref (a)), (1, .int (zI ((x : Nat) : Int))), (2, .int (zI ((bn : Nat) : Int)))]) hx hb dX5_falls_70 hl (k := 4) rfl (zI_inc (by omega)) (by decide) rfl (fun ls hl => ?_)
                refine lv_goto (tgt := 4) hx hb dX5_falls_73 (by decide) ?_
                exact ih4 (k + 1) (((bn : Nat) : Int)) (by first | with_reducible assumption | omega | with_reducible rfl) (by simp only [cfN]; rw [← hs]; first | (rw [if_neg (fun q => by rw [c_35] at q; exact absurd q.1 (by decide))]; done) | (rw [if_neg (fun q => by have := q.2.1; omega)]; done) | (rw [if_pos ⟨c_35, by omega, Or.inl (by omega)⟩]; done) | (rw [if_pos ⟨c_35, by omega, Or.inr (by rw [Int.toNat_natCast]; omega)⟩]; done) | (rw [if_neg (fun q => by rcases q.2.2 with y | y; omega; rw [Int.toNat_natCast] at y; omega)]; done)) (by first | with_reducible assumption | omega | with_reducible rfl) (by omega) ls (lv_sub hl [2, 3, 4, 0] rfl)
              · refine lv_iload_n hx hb dX5_falls_68 rfl (lv_at hl 4 rfl) ?_
                refine lv_istore_n (lv' := [(2, .int (zI ((k : Nat) : Int))), (4, .int (zI (ef (x ^^^ (2 ^ k))))), (0, .ref (a)), (1, .int (zI ((x : Nat) : Int))), (3, .int (zI ((k : Nat) : Int)))]) hx hb dX5_falls_69 rfl hl (by decide) rfl (fun ls hl => ?_)
                refine lv_iinc (v := zI ((k + 1 : Nat) : Int)) (lv' := [(3, .int (zI ((k + 1 : Nat) : Int))), (2, .int (zI ((k : Nat) : Int))), (4, .int (zI (ef (x ^^^ (2 ^ k))))), (0, .ref (a)), (1, .int (zI ((x : Nat) : Int)))]) hx hb dX5_falls_70 hl (k := 4) rfl (zI_inc (by omega)) (by decide) rfl (fun ls hl => ?_)
                refine lv_goto (tgt := 4) hx hb dX5_falls_73 (by decide) ?_
                exact ih4 (k + 1) (((k : Nat) : Int)) (by first | with_reducible assumption | omega | with_reducible rfl) (by simp only [cfN]; rw [← hs]; first | (rw [if_neg (fun q => by rw [c_35] at q; exact absurd q.1 (by decide))]; done) | (rw [if_neg (fun q => by have := q.2.1; omega)]; done) | (rw [if_pos ⟨c_35, by omega, Or.inl (by omega)⟩]; done) | (rw [if_pos ⟨c_35, by omega, Or.inr (by rw [Int.toNat_natCast]; omega)⟩]; done) | (rw [if_neg (fun q => by rcases q.2.2 with y | y; omega; rw [Int.toNat_natCast] at y; omega)]; done)) (by first | with_reducible assumption | omega | with_reducible rfl) (by omega) ls (lv_sub hl [3, 4, 1, 0] rfl)
  exact L4 ((w * le - 0) + 1) (0) ((-1)) (by first | with_reducible assumption | omega | with_reducible rfl) rfl (by first | with_reducible assumption | omega | with_reducible rfl) (by omega) ls (lv_sub hl [2, 3, 1, 0] rfl)
set_option maxHeartbeats 600000 in
set_option maxRecDepth 100000 in
theorem k_X5_isStuck (l : Launch) (D : va_G) (dA : Nat → ClassId) (a sp w le rg st sd qa ql qf up dn qe : Nat) (x1 x2 x3 x4 x5 : Value) (lst : Int) (ef : Nat → Int) (x : Nat) (hwl : w * le ≤ 16) (hu : up < 65536) (hd : dn < 65536) (be : ∀ j, -1000 ≤ ef j ∧ ef j ≤ 1000) (hxx : x < 2 ^ (w * le)) : zM l yX5_isStuck cX5_isStuck 2 (some .boolean) (zRm 3 66) D dA [.ref (a), .int (zI ((x : Nat) : Int))] [(a, .inr (5, [.ref (sp), .ref (qe), x1, x2, x3, x4, .int (zI (lst)), x5])), (sp, .inr (4, [.int (zI ((w : Nat) : Int)), .int (zI ((le : Nat) : Int)), .int (zI ((rg : Nat) : Int)), .int (zI ((st : Nat) : Int)), .int (zI ((sd : Nat) : Int)), .ref (qa), .ref (ql), .ref (qf), .int (zI ((up : Nat) : Int)), .int (zI ((dn : Nat) : Int))])), (qe, .inl (dA 2, 65536, .inl (fun jz => zI (ef jz))))] (some (.int (zB (decide (cfN ef (fun k => (up ||| dn).testBit k) x (w * le) < 0))))) := by
  refine zM.of (by decide +kernel) rfl ?_
  intro pp ee ss mm args below meth cd Q C hr hlk hQ hP ls hl
  have hx := C.1.1
  have hb := C.1.2.1
  have hl : lv_has ls 2 [(0, .ref (a)), (1, .int (zI ((x : Nat) : Int)))] := hl
  have cb := cfN_b ef (fun k => (up ||| dn).testBit k) x (w * le)
  refine lv_aload_n hx hb dX5_isStuck_0 rfl (lv_at hl 0 rfl) ?_
  refine lv_iload_n hx hb dX5_isStuck_1 rfl (lv_at hl 1 rfl) ?_
  refine z_cV (n := 1) (As := [.int (zI ((x : Nat) : Int))]) (rest := []) C hP (k_X5_falls l D dA (a) (sp) (w) (le) (rg) (st) (sd) (qa) (ql) (qf) (up) (dn) (qe) (x1) (x2) (x3) (x4) (x5) ((lst)) (ef) (x) (by first | with_reducible assumption | omega | with_reducible rfl) (by first | with_reducible assumption | omega | with_reducible rfl) (by first | with_reducible assumption | omega | with_reducible rfl) (by first | with_reducible assumption | omega | with_reducible rfl) (by first | with_reducible assumption | omega | with_reducible rfl)) (lw_V q1553 q1377 q1378 q116 q1379) (by decide +kernel) rfl ⟨Nat.le_of_ble_eq_true rfl, Nat.le_of_ble_eq_true rfl⟩ hl.1 (hP.sub [0, 1, 2] rfl) 0 rfl rfl rfl (Nat.le_of_ble_eq_true rfl) dX5_isStuck_2 (Nat.zero_le _) (Nat.zero_le _) ?_
  refine z_if_ge (tgt := 12) C ⟨by omega, by omega⟩ dX5_isStuck_5 (by decide) (fun c_5 => ?_) (fun c_5 => ?_)
  · refine z_iconst C dX5_isStuck_12 ?_
    exact z_zret0 C hlk hr hQ (decide_eq_false (by omega)) dX5_isStuck_13
  · refine z_iconst C dX5_isStuck_8 ?_
    refine lv_goto (tgt := 13) hx hb dX5_isStuck_9 (by decide) ?_
    exact z_zret1 C hlk hr hQ (decide_eq_true (by omega)) dX5_isStuck_13
