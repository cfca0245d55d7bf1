set_option maxHeartbeats 600000 in
set_option maxRecDepth 100000 in
theorem k_X9_brokenOf (l : Launch) (D : va_G) (dA : Nat → ClassId) (a : Nat) (v0 v1 v2 v3 v4 v5 v6 v7 v8 v9 v10 v11 v12 v13 v14 v15 v16 v22 v23 v24 v25 v26 v27 v28 v29 v30 v31 v32 v33 v34 v35 v36 v37 v38 v39 v40 v41 v42 v43 v44 : Value) (w le : Nat) (ra rl : Bool) (qn : Nat) (f : Nat → Int) (s0 : Nat) (hwl : w * le ≤ 16) (hs0 : s0 < 2147483648) (bo : ∀ j, -1000000 ≤ f j ∧ f j ≤ 1000000) : zM l yX9_brokenOf cX9_brokenOf 8 (some .int) (zRm 2 48) D dA [.ref (a), .int (zI ((s0 : Nat) : Int))] [(a, .inr (9, [v0, v1, v2, v3, v4, v5, v6, v7, v8, v9, v10, v11, v12, v13, v14, v15, v16, .int (zI ((w : Nat) : Int)), .int (zI ((le : Nat) : Int)), .int (zB (ra)), .int (zB (rl)), .ref (qn), v22, v23, v24, v25, v26, v27, v28, v29, v30, v31, v32, v33, v34, v35, v36, v37, v38, v39, v40, v41, v42, v43, v44])), (qn, .inl (dA 3, 66, .inl (fun j => zI (f j))))] (some (.int (zI ((mbN w le (rgOf ra rl) f s0 (2 * (w * le)) : Nat) : Int)))) := by
  refine zM.of (by decide +kernel) rfl ?_
  intro pp ee ss mm args below meth cd Q C hr hlk hQ hP ls hl
  have hx := C.1.1
  have hb := C.1.2.1
  have hl : lv_has ls 8 [(0, .ref (a)), (1, .int (zI ((s0 : Nat) : Int)))] := hl
  refine z_iconst C dX9_brokenOf_0 ?_
  refine lv_istore_n (lv' := [(2, .int (zI 0)), (0, .ref (a)), (1, .int (zI ((s0 : Nat) : Int)))]) hx hb dX9_brokenOf_1 rfl hl (by decide) rfl (fun ls hl => ?_)
  refine z_iconst C dX9_brokenOf_2 ?_
  refine lv_istore_n (lv' := [(3, .int (zI 0)), (2, .int (zI 0)), (0, .ref (a)), (1, .int (zI ((s0 : Nat) : Int)))]) hx hb dX9_brokenOf_3 rfl hl (by decide) rfl (fun ls hl => ?_)
  have L4 : ∀ (N : Nat) (j nn : Nat), (j ≤ 2 * (w * le)) → (nn = mbN w le (rgOf ra rl) f s0 j) → (2 * (w * le) - j) < N → ∀ ls : Array Slot, lv_has ls 8 [(0, .ref (a)), (1, .int (zI ((s0 : Nat) : Int))), (2, .int (zI ((nn : Nat) : Int))), (3, .int (zI ((j : Nat) : Int)))] → W pp l ee (zRm 2 48) ss mm args below meth cd ss.heap [] 0 0 Q (F0 mm 4 ls []) := by
    intro N
    induction N with
    | zero => intro j nn _ _ hm; exact absurd hm (Nat.not_lt_zero _)
    | succ N ih4 =>
      intro j nn hj hs hm4 ls hl
      refine lv_iload_n hx hb dX9_brokenOf_4 rfl (lv_at hl 3 rfl) ?_
      refine z_iconst C dX9_brokenOf_5 ?_
      refine lv_aload_n hx hb dX9_brokenOf_6 rfl (lv_at hl 0 rfl) ?_
      refine z_cV (n := 0) (As := []) (rest := [.int (zI 2), .int (zI ((j : Nat) : Int))]) C hP (k_X9_sites l D dA (a) (v0) (v1) (v2) (v3) (v4) (v5) (v6) (v7) (v8) (v9) (v10) (v11) (v12) (v13) (v14) (v15) (v16) (v22) (v23) (v24) (v25) (v26) (v27) (v28) (v29) (v30) (v31) (v32) (v33) (v34) (v35) (v36) (v37) (v38) (v39) (v40) (v41) (v42) (v43) (v44) (w) (le) (ra) (rl) (qn)) (lw_V q2112 q2114 qs80 q124 q2115) (by decide +kernel) rfl ⟨Nat.le_of_ble_eq_true rfl, Nat.le_of_ble_eq_true rfl⟩ hl.1 (hP.sub [0] rfl) 0 rfl rfl rfl (Nat.le_of_ble_eq_true rfl) dX9_brokenOf_7 (Nat.zero_le _) (Nat.zero_le _) ?_
      refine z_imulN C (2) (w * le) rfl rfl dX9_brokenOf_10 ?_
      refine z_icmp_ge (tgt := 111) C ⟨by omega, by omega⟩ ⟨by omega, by omega⟩ dX9_brokenOf_11 (by decide) (fun c_11 => ?_) (fun c_11 => ?_)
      · refine lv_iload_n hx hb dX9_brokenOf_111 rfl (lv_at hl 2 rfl) ?_
        exact z_iret C hlk hr hQ (by rw [hs]; congr 2; omega) dX9_brokenOf_112
      · have hbn := mbN_le w le (rgOf ra rl) f s0 j
        refine lv_iload_n hx hb dX9_brokenOf_14 rfl (lv_at hl 3 rfl) ?_
        refine z_iconst C dX9_brokenOf_15 ?_
        refine z_idivN C (j) (2) rfl rfl (by omega) ⟨by omega, by omega⟩ dX9_brokenOf_16 ?_
        refine z_nmN (fun si_1 e_si_1 => ?_)
        have hk : si_1 < w * le := by omega
        refine lv_istore (lv' := [(4, .int (zI ((si_1 : Nat) : Int))), (0, .ref (a)), (1, .int (zI ((s0 : Nat) : Int))), (2, .int (zI ((nn : Nat) : Int))), (3, .int (zI ((j : Nat) : Int)))]) hx hb dX9_brokenOf_17 hl (by decide) rfl (fun ls hl => ?_)
        refine lv_iload_n hx hb dX9_brokenOf_19 rfl (lv_at hl 4 rfl) ?_
        refine z_iconst C dX9_brokenOf_20 ?_
        refine z_iremN C (j) (2) rfl rfl (by omega) ⟨by omega, by omega⟩ dX9_brokenOf_21 ?_
        refine z_nmN (fun pr_2 e_pr_2 => ?_)
        have hpr : pr_2 < 2 := by omega
        refine z_iconst C dX9_brokenOf_22 ?_
        refine z_icmp_ne (tgt := 30) C ⟨by omega, by omega⟩ ⟨by decide, by decide⟩ dX9_brokenOf_23 (by decide) (fun c_23 => ?_) (fun c_23 => ?_)
        · refine z_iconst C dX9_brokenOf_30 ?_
          refine lv_istore (lv' := [(5, .int (zI 0)), (4, .int (zI ((si_1 : Nat) : Int))), (0, .ref (a)), (1, .int (zI ((s0 : Nat) : Int))), (2, .int (zI ((nn : Nat) : Int))), (3, .int (zI ((j : Nat) : Int)))]) hx hb dX9_brokenOf_31 hl (by decide) rfl (fun ls hl => ?_)
          refine lv_aload_n hx hb dX9_brokenOf_33 rfl (lv_at hl 2 rfl) ?_
          refine lv_iload hx hb dX9_brokenOf_34 (lv_at hl 1 rfl) ?_
          refine lv_iload hx hb dX9_brokenOf_36 (lv_at hl 0 rfl) ?_
          refine z_cV (n := 2) (As := [.int (zI ((si_1 : Nat) : Int)), .int (zI 0)]) (rest := []) C hP (k_X9_tieTo l D dA (a) (v0) (v1) (v2) (v3) (v4) (v5) (v6) (v7) (v8) (v9) (v10) (v11) (v12) (v13) (v14) (v15) (v16) (v22) (v23) (v24) (v25) (v26) (v27) (v28) (v29) (v30) (v31) (v32) (v33) (v34) (v35) (v36) (v37) (v38) (v39) (v40) (v41) (v42) (v43) (v44) (w) (le) (ra) (rl) (qn) (si_1) (false) (by first | with_reducible assumption | omega | with_reducible rfl) (by first | with_reducible assumption | omega | with_reducible rfl)) (lw_V q2128 q2130 qs82 q124 q2131) (by decide +kernel) rfl ⟨Nat.le_of_ble_eq_true rfl, Nat.le_of_ble_eq_true rfl⟩ hl.1 (hP.sub [0] rfl) 0 rfl rfl rfl (Nat.le_of_ble_eq_true rfl) dX9_brokenOf_38 (Nat.zero_le _) (Nat.zero_le _) ?_
          refine z_nm (fun to_3 e_to_3 => ?_)
          have o_to_3 := oth_lt (rgOf ra rl) false hk
          rw [← e_to_3] at o_to_3
          refine lv_istore (lv' := [(6, .int (zI (to_3))), (5, .int (zI 0)), (4, .int (zI ((si_1 : Nat) : Int))), (0, .ref (a)), (1, .int (zI ((s0 : Nat) : Int))), (2, .int (zI ((nn : Nat) : Int))), (3, .int (zI ((j : Nat) : Int)))]) hx hb dX9_brokenOf_41 hl (by decide) rfl (fun ls hl => ?_)
          refine lv_aload_n hx hb dX9_brokenOf_43 rfl (lv_at hl 3 rfl) ?_
          refine z_get C hP 0 rfl rfl in_X9 21 (by decide) q1905 rfl dX9_brokenOf_44 ?_
          refine lv_iload hx hb dX9_brokenOf_47 (lv_at hl 2 rfl) ?_
          refine lv_iload hx hb dX9_brokenOf_49 (lv_at hl 1 rfl) ?_
          refine z_cS (n := 3) (As := [.ref (qn), .int (zI ((si_1 : Nat) : Int)), .int (zI 0)]) (rest := []) C (k_X9_jOf l D dA (qn) (f) (si_1) (false) (by first | with_reducible assumption | omega | with_reducible rfl)) (lw_S q2132 q2133 q124 q2134) (by decide +kernel) rfl ⟨Nat.le_of_ble_eq_true rfl, Nat.le_of_ble_eq_true rfl⟩ hl.1 (hP.sub [1] rfl) rfl (Nat.le_of_ble_eq_true rfl) dX9_brokenOf_51 (Nat.zero_le _) (Nat.zero_le _) ?_
          refine z_nm (fun jj_4 e_jj_4 => ?_)
          have hjj : -1000000 ≤ jj_4 ∧ jj_4 ≤ 1000000 := by rw [e_jj_4]; unfold jw; split <;> exact bo _
          refine lv_istore (lv' := [(7, .int (zI (jj_4))), (6, .int (zI (to_3))), (5, .int (zI 0)), (4, .int (zI ((si_1 : Nat) : Int))), (0, .ref (a)), (1, .int (zI ((s0 : Nat) : Int))), (2, .int (zI ((nn : Nat) : Int))), (3, .int (zI ((j : Nat) : Int)))]) hx hb dX9_brokenOf_54 hl (by decide) rfl (fun ls hl => ?_)
          refine lv_iload hx hb dX9_brokenOf_56 (lv_at hl 1 rfl) ?_
          refine z_if_lt (tgt := 105) C ⟨by omega, by omega⟩ dX9_brokenOf_58 (by decide) (fun c_58 => ?_) (fun c_58 => ?_)
          · refine lv_iinc (v := zI ((j + 1 : Nat) : Int)) (lv' := [(3, .int (zI ((j + 1 : Nat) : Int))), (7, .int (zI (jj_4))), (6, .int (zI (to_3))), (5, .int (zI 0)), (4, .int (zI ((si_1 : Nat) : Int))), (0, .ref (a)), (1, .int (zI ((s0 : Nat) : Int))), (2, .int (zI ((nn : Nat) : Int)))]) hx hb dX9_brokenOf_105 hl (k := 7) rfl (zI_inc (by omega)) (by decide) rfl (fun ls hl => ?_)
            refine lv_goto (tgt := 4) hx hb dX9_brokenOf_108 (by decide) ?_
            exact ih4 (j + 1) (nn) (by first | with_reducible assumption | omega | with_reducible rfl) (by have ha : decide (j % 2 = 1) = false := decide_eq_false (by omega); simp only [mbN]; rw [ha, ← hs, ← e_si_1]; have hj9 := e_jj_4; first | (have h8 := bkT_neg (fa := f) (fl := fun q => f (16 + q)) (s := s0) e_to_3 c_58; omega) | (have h8 := bkT_j0 (w := w) (le := le) (rg := rgOf ra rl) (s := s0) (hj9.symm.trans c_63); omega) | (have h8 := bkT_yes (fa := f) (fl := fun q => f (16 + q)) (s := s0) e_to_3 (by rw [← hj9]; first | exact Or.inl ⟨c_81, by omega⟩ | exact Or.inr ⟨c_81, by omega⟩); omega) | (have h8 := bkT_no (fa := f) (fl := fun q => f (16 + q)) (s := s0) e_to_3 (by rw [← hj9]; first | exact Or.inl ⟨c_81, by omega⟩ | exact Or.inr ⟨c_81, by omega⟩); omega)) (by omega) ls (lv_sub hl [5, 6, 7, 0] rfl)
          · refine lv_iload hx hb dX9_brokenOf_61 (lv_at hl 0 rfl) ?_
            refine z_if_ne (tgt := 69) C ⟨by omega, by omega⟩ dX9_brokenOf_63 (by decide) (fun c_63 => ?_) (fun c_63 => ?_)
            · obtain ⟨to_3n, rfl⟩ : ∃ q : Nat, to_3 = (q : Int) := ⟨to_3.toNat, by omega⟩
              refine lv_iload_n hx hb dX9_brokenOf_69 rfl (lv_at hl 5 rfl) ?_
              refine lv_iload hx hb dX9_brokenOf_70 (lv_at hl 3 rfl) ?_
              refine z_cS (n := 2) (As := [.int (zI ((s0 : Nat) : Int)), .int (zI ((si_1 : Nat) : Int))]) (rest := []) C (k_X9_has l D dA (s0) (si_1) (by first | with_reducible assumption | omega | with_reducible rfl) (by first | with_reducible assumption | omega | with_reducible rfl)) (lw_S q2247 q2248 q124 q2249) (by decide +kernel) rfl ⟨Nat.le_of_ble_eq_true rfl, Nat.le_of_ble_eq_true rfl⟩ hl.1 (hP.sub [] rfl) rfl (Nat.le_of_ble_eq_true rfl) dX9_brokenOf_72 (Nat.zero_le _) (Nat.zero_le _) ?_
              refine lv_iload_n hx hb dX9_brokenOf_75 rfl (lv_at hl 5 rfl) ?_
              refine lv_iload hx hb dX9_brokenOf_76 (lv_at hl 1 rfl) ?_
              refine z_cS (n := 2) (As := [.int (zI ((s0 : Nat) : Int)), .int (zI ((to_3n : Nat) : Int))]) (rest := [.int (zB (s0.testBit si_1))]) C (k_X9_has l D dA (s0) (to_3n) (by first | with_reducible assumption | omega | with_reducible rfl) (by first | with_reducible assumption | omega | with_reducible rfl)) (lw_S q2247 q2248 q124 q2249) (by decide +kernel) rfl ⟨Nat.le_of_ble_eq_true rfl, Nat.le_of_ble_eq_true rfl⟩ hl.1 (hP.sub [] rfl) rfl (Nat.le_of_ble_eq_true rfl) dX9_brokenOf_78 (Nat.zero_le _) (Nat.zero_le _) ?_
              refine z_icmp_neB (tgt := 88) C dX9_brokenOf_81 (by decide) (fun c_81 => ?_) (fun c_81 => ?_)
              · refine z_iconst C dX9_brokenOf_88 ?_
                refine lv_iload hx hb dX9_brokenOf_89 (lv_at hl 0 rfl) ?_
                refine z_if_ge (tgt := 98) C ⟨by omega, by omega⟩ dX9_brokenOf_91 (by decide) (fun c_91 => ?_) (fun c_91 => ?_)
                · refine z_iconst C dX9_brokenOf_98 ?_
                  refine z_icmp_ne (tgt := 105) C ⟨by decide, by decide⟩ ⟨by decide, by decide⟩ dX9_brokenOf_99 (by decide) (fun c => absurd c (by decide)) (fun _ => ?_)
                  refine lv_iinc (v := zI ((nn + 1 : Nat) : Int)) (lv' := [(2, .int (zI ((nn + 1 : Nat) : Int))), (7, .int (zI (jj_4))), (6, .int (zI ((to_3n : Nat) : Int))), (5, .int (zI 0)), (4, .int (zI ((si_1 : Nat) : Int))), (0, .ref (a)), (1, .int (zI ((s0 : Nat) : Int))), (3, .int (zI ((j : Nat) : Int)))]) hx hb dX9_brokenOf_102 hl (k := 6) rfl (zI_inc (by omega)) (by decide) rfl (fun ls hl => ?_)
                  refine lv_iinc (v := zI ((j + 1 : Nat) : Int)) (lv' := [(3, .int (zI ((j + 1 : Nat) : Int))), (2, .int (zI ((nn + 1 : Nat) : Int))), (7, .int (zI (jj_4))), (6, .int (zI ((to_3n : Nat) : Int))), (5, .int (zI 0)), (4, .int (zI ((si_1 : Nat) : Int))), (0, .ref (a)), (1, .int (zI ((s0 : Nat) : Int)))]) hx hb dX9_brokenOf_105 hl (k := 7) rfl (zI_inc (by omega)) (by decide) rfl (fun ls hl => ?_)
                  refine lv_goto (tgt := 4) hx hb dX9_brokenOf_108 (by decide) ?_
                  exact ih4 (j + 1) (nn + 1) (by first | with_reducible assumption | omega | with_reducible rfl) (by have ha : decide (j % 2 = 1) = false := decide_eq_false (by omega); simp only [mbN]; rw [ha, ← hs, ← e_si_1]; have hj9 := e_jj_4; first | (have h8 := bkT_neg (fa := f) (fl := fun q => f (16 + q)) (s := s0) e_to_3 c_58; omega) | (have h8 := bkT_j0 (w := w) (le := le) (rg := rgOf ra rl) (s := s0) (hj9.symm.trans c_63); omega) | (have h8 := bkT_yes (fa := f) (fl := fun q => f (16 + q)) (s := s0) e_to_3 (by rw [← hj9]; first | exact Or.inl ⟨c_81, by omega⟩ | exact Or.inr ⟨c_81, by omega⟩); omega) | (have h8 := bkT_no (fa := f) (fl := fun q => f (16 + q)) (s := s0) e_to_3 (by rw [← hj9]; first | exact Or.inl ⟨c_81, by omega⟩ | exact Or.inr ⟨c_81, by omega⟩); omega)) (by omega) ls (lv_sub hl [6, 7, 1, 0] rfl)
                · refine z_iconst C dX9_brokenOf_94 ?_
                  refine lv_goto (tgt := 99) hx hb dX9_brokenOf_95 (by decide) ?_
                  refine z_icmp_ne (tgt := 105) C ⟨by decide, by decide⟩ ⟨by decide, by decide⟩ dX9_brokenOf_99 (by decide) (fun _ => ?_) (fun c => absurd c (by decide))
                  refine lv_iinc (v := zI ((j + 1 : Nat) : Int)) (lv' := [(3, .int (zI ((j + 1 : Nat) : Int))), (7, .int (zI (jj_4))), (6, .int (zI ((to_3n : Nat) : Int))), (5, .int (zI 0)), (4, .int (zI ((si_1 : Nat) : Int))), (0, .ref (a)), (1, .int (zI ((s0 : Nat) : Int))), (2, .int (zI ((nn : Nat) : Int)))]) hx hb dX9_brokenOf_105 hl (k := 7) rfl (zI_inc (by omega)) (by decide) rfl (fun ls hl => ?_)
                  refine lv_goto (tgt := 4) hx hb dX9_brokenOf_108 (by decide) ?_
                  exact ih4 (j + 1) (nn) (by first | with_reducible assumption | omega | with_reducible rfl) (by have ha : decide (j % 2 = 1) = false := decide_eq_false (by omega); simp only [mbN]; rw [ha, ← hs, ← e_si_1]; have hj9 := e_jj_4; first | (have h8 := bkT_neg (fa := f) (fl := fun q => f (16 + q)) (s := s0) e_to_3 c_58; omega) | (have h8 := bkT_j0 (w := w) (le := le) (rg := rgOf ra rl) (s := s0) (hj9.symm.trans c_63); omega) | (have h8 := bkT_yes (fa := f) (fl := fun q => f (16 + q)) (s := s0) e_to_3 (by rw [← hj9]; first | exact Or.inl ⟨c_81, by omega⟩ | exact Or.inr ⟨c_81, by omega⟩); omega) | (have h8 := bkT_no (fa := f) (fl := fun q => f (16 + q)) (s := s0) e_to_3 (by rw [← hj9]; first | exact Or.inl ⟨c_81, by omega⟩ | exact Or.inr ⟨c_81, by omega⟩); omega)) (by omega) ls (lv_sub hl [5, 6, 7, 0] rfl)
              · refine z_iconst C dX9_brokenOf_84 ?_
                refine lv_goto (tgt := 89) hx hb dX9_brokenOf_85 (by decide) ?_
                refine lv_iload hx hb dX9_brokenOf_89 (lv_at hl 0 rfl) ?_
                refine z_if_ge (tgt := 98) C ⟨by omega, by omega⟩ dX9_brokenOf_91 (by decide) (fun c_91 => ?_) (fun c_91 => ?_)
                · refine z_iconst C dX9_brokenOf_98 ?_
                  refine z_icmp_ne (tgt := 105) C ⟨by decide, by decide⟩ ⟨by decide, by decide⟩ dX9_brokenOf_99 (by decide) (fun _ => ?_) (fun c => absurd c (by decide))
                  refine lv_iinc (v := zI ((j + 1 : Nat) : Int)) (lv' := [(3, .int (zI ((j + 1 : Nat) : Int))), (7, .int (zI (jj_4))), (6, .int (zI ((to_3n : Nat) : Int))), (5, .int (zI 0)), (4, .int (zI ((si_1 : Nat) : Int))), (0, .ref (a)), (1, .int (zI ((s0 : Nat) : Int))), (2, .int (zI ((nn : Nat) : Int)))]) hx hb dX9_brokenOf_105 hl (k := 7) rfl (zI_inc (by omega)) (by decide) rfl (fun ls hl => ?_)
                  refine lv_goto (tgt := 4) hx hb dX9_brokenOf_108 (by decide) ?_
                  exact ih4 (j + 1) (nn) (by first | with_reducible assumption | omega | with_reducible rfl) (by have ha : decide (j % 2 = 1) = false := decide_eq_false (by omega); simp only [mbN]; rw [ha, ← hs, ← e_si_1]; have hj9 := e_jj_4; first | (have h8 := bkT_neg (fa := f) (fl := fun q => f (16 + q)) (s := s0) e_to_3 c_58; omega) | (have h8 := bkT_j0 (w := w) (le := le) (rg := rgOf ra rl) (s := s0) (hj9.symm.trans c_63); omega) | (have h8 := bkT_yes (fa := f) (fl := fun q => f (16 + q)) (s := s0) e_to_3 (by rw [← hj9]; first | exact Or.inl ⟨c_81, by omega⟩ | exact Or.inr ⟨c_81, by omega⟩); omega) | (have h8 := bkT_no (fa := f) (fl := fun q => f (16 + q)) (s := s0) e_to_3 (by rw [← hj9]; first | exact Or.inl ⟨c_81, by omega⟩ | exact Or.inr ⟨c_81, by omega⟩); omega)) (by omega) ls (lv_sub hl [5, 6, 7, 0] rfl)
                · refine z_iconst C dX9_brokenOf_94 ?_
                  refine lv_goto (tgt := 99) hx hb dX9_brokenOf_95 (by decide) ?_
                  refine z_icmp_ne (tgt := 105) C ⟨by decide, by decide⟩ ⟨by decide, by decide⟩ dX9_brokenOf_99 (by decide) (fun c => absurd c (by decide)) (fun _ => ?_)
                  refine lv_iinc (v := zI ((nn + 1 : Nat) : Int)) (lv' := [(2, .int (zI ((nn + 1 : Nat) : Int))), (7, .int (zI (jj_4))), (6, .int (zI ((to_3n : Nat) : Int))), (5, .int (zI 0)), (4, .int (zI ((si_1 : Nat) : Int))), (0, .ref (a)), (1, .int (zI ((s0 : Nat) : Int))), (3, .int (zI ((j : Nat) : Int)))]) hx hb dX9_brokenOf_102 hl (k := 6) rfl (zI_inc (by omega)) (by decide) rfl (fun ls hl => ?_)
                  refine lv_iinc (v := zI ((j + 1 : Nat) : Int)) (lv' := [(3, .int (zI ((j + 1 : Nat) : Int))), (2, .int (zI ((nn + 1 : Nat) : Int))), (7, .int (zI (jj_4))), (6, .int (zI ((to_3n : Nat) : Int))), (5, .int (zI 0)), (4, .int (zI ((si_1 : Nat) : Int))), (0, .ref (a)), (1, .int (zI ((s0 : Nat) : Int)))]) hx hb dX9_brokenOf_105 hl (k := 7) rfl (zI_inc (by omega)) (by decide) rfl (fun ls hl => ?_)
                  refine lv_goto (tgt := 4) hx hb dX9_brokenOf_108 (by decide) ?_
                  exact ih4 (j + 1) (nn + 1) (by first | with_reducible assumption | omega | with_reducible rfl) (by have ha : decide (j % 2 = 1) = false := decide_eq_false (by omega); simp only [mbN]; rw [ha, ← hs, ← e_si_1]; have hj9 := e_jj_4; first | (have h8 := bkT_neg (fa := f) (fl := fun q => f (16 + q)) (s := s0) e_to_3 c_58; omega) | (have h8 := bkT_j0 (w := w) (le := le) (rg := rgOf ra rl) (s := s0) (hj9.symm.trans c_63); omega) | (have h8 := bkT_yes (fa := f) (fl := fun q => f (16 + q)) (s := s0) e_to_3 (by rw [← hj9]; first | exact Or.inl ⟨c_81, by omega⟩ | exact Or.inr ⟨c_81, by omega⟩); omega) | (have h8 := bkT_no (fa := f) (fl := fun q => f (16 + q)) (s := s0) e_to_3 (by rw [← hj9]; first | exact Or.inl ⟨c_81, by omega⟩ | exact Or.inr ⟨c_81, by omega⟩); omega)) (by omega) ls (lv_sub hl [6, 7, 1, 0] rfl)
            · refine lv_goto (tgt := 105) hx hb dX9_brokenOf_66 (by decide) ?_
              refine lv_iinc (v := zI ((j + 1 : Nat) : Int)) (lv' := [(3, .int (zI ((j + 1 : Nat) : Int))), (7, .int (zI (jj_4))), (6, .int (zI (to_3))), (5, .int (zI 0)), (4, .int (zI ((si_1 : Nat) : Int))), (0, .ref (a)), (1, .int (zI ((s0 : Nat) : Int))), (2, .int (zI ((nn : Nat) : Int)))]) hx hb dX9_brokenOf_105 hl (k := 7) rfl (zI_inc (by omega)) (by decide) rfl (fun ls hl => ?_)
              refine lv_goto (tgt := 4) hx hb dX9_brokenOf_108 (by decide) ?_
              exact ih4 (j + 1) (nn) (by first | with_reducible assumption | omega | with_reducible rfl) (by have ha : decide (j % 2 = 1) = false := decide_eq_false (by omega); simp only [mbN]; rw [ha, ← hs, ← e_si_1]; have hj9 := e_jj_4; first | (have h8 := bkT_neg (fa := f) (fl := fun q => f (16 + q)) (s := s0) e_to_3 c_58; omega) | (have h8 := bkT_j0 (w := w) (le := le) (rg := rgOf ra rl) (s := s0) (hj9.symm.trans c_63); omega) | (have h8 := bkT_yes (fa := f) (fl := fun q => f (16 + q)) (s := s0) e_to_3 (by rw [← hj9]; first | exact Or.inl ⟨c_81, by omega⟩ | exact Or.inr ⟨c_81, by omega⟩); omega) | (have h8 := bkT_no (fa := f) (fl := fun q => f (16 + q)) (s := s0) e_to_3 (by rw [← hj9]; first | exact Or.inl ⟨c_81, by omega⟩ | exact Or.inr ⟨c_81, by omega⟩); omega)) (by omega) ls (lv_sub hl [5, 6, 7, 0] rfl)
        · refine z_iconst C dX9_brokenOf_26 ?_
          refine lv_goto (tgt := 31) hx hb dX9_brokenOf_27 (by decide) ?_
          refine lv_istore (lv' := [(5, .int (zI 1)), (4, .int (zI ((si_1 : Nat) : Int))), (0, .ref (a)), (1, .int (zI ((s0 : Nat) : Int))), (2, .int (zI ((nn : Nat) : Int))), (3, .int (zI ((j : Nat) : Int)))]) hx hb dX9_brokenOf_31 hl (by decide) rfl (fun ls hl => ?_)
          refine lv_aload_n hx hb dX9_brokenOf_33 rfl (lv_at hl 2 rfl) ?_
          refine lv_iload hx hb dX9_brokenOf_34 (lv_at hl 1 rfl) ?_
          refine lv_iload hx hb dX9_brokenOf_36 (lv_at hl 0 rfl) ?_
          refine z_cV (n := 2) (As := [.int (zI ((si_1 : Nat) : Int)), .int (zI 1)]) (rest := []) C hP (k_X9_tieTo l D dA (a) (v0) (v1) (v2) (v3) (v4) (v5) (v6) (v7) (v8) (v9) (v10) (v11) (v12) (v13) (v14) (v15) (v16) (v22) (v23) (v24) (v25) (v26) (v27) (v28) (v29) (v30) (v31) (v32) (v33) (v34) (v35) (v36) (v37) (v38) (v39) (v40) (v41) (v42) (v43) (v44) (w) (le) (ra) (rl) (qn) (si_1) (true) (by first | with_reducible assumption | omega | with_reducible rfl) (by first | with_reducible assumption | omega | with_reducible rfl)) (lw_V q2128 q2130 qs82 q124 q2131) (by decide +kernel) rfl ⟨Nat.le_of_ble_eq_true rfl, Nat.le_of_ble_eq_true rfl⟩ hl.1 (hP.sub [0] rfl) 0 rfl rfl rfl (Nat.le_of_ble_eq_true rfl) dX9_brokenOf_38 (Nat.zero_le _) (Nat.zero_le _) ?_
          refine z_nm (fun to_5 e_to_5 => ?_)
          have o_to_5 := oth_lt (rgOf ra rl) true hk
          rw [← e_to_5] at o_to_5
          refine lv_istore (lv' := [(6, .int (zI (to_5))), (5, .int (zI 1)), (4, .int (zI ((si_1 : Nat) : Int))), (0, .ref (a)), (1, .int (zI ((s0 : Nat) : Int))), (2, .int (zI ((nn : Nat) : Int))), (3, .int (zI ((j : Nat) : Int)))]) hx hb dX9_brokenOf_41 hl (by decide) rfl (fun ls hl => ?_)
          refine lv_aload_n hx hb dX9_brokenOf_43 rfl (lv_at hl 3 rfl) ?_
          refine z_get C hP 0 rfl rfl in_X9 21 (by decide) q1905 rfl dX9_brokenOf_44 ?_
          refine lv_iload hx hb dX9_brokenOf_47 (lv_at hl 2 rfl) ?_
          refine lv_iload hx hb dX9_brokenOf_49 (lv_at hl 1 rfl) ?_
          refine z_cS (n := 3) (As := [.ref (qn), .int (zI ((si_1 : Nat) : Int)), .int (zI 1)]) (rest := []) C (k_X9_jOf l D dA (qn) (f) (si_1) (true) (by first | with_reducible assumption | omega | with_reducible rfl)) (lw_S q2132 q2133 q124 q2134) (by decide +kernel) rfl ⟨Nat.le_of_ble_eq_true rfl, Nat.le_of_ble_eq_true rfl⟩ hl.1 (hP.sub [1] rfl) rfl (Nat.le_of_ble_eq_true rfl) dX9_brokenOf_51 (Nat.zero_le _) (Nat.zero_le _) ?_
          refine z_nm (fun jj_6 e_jj_6 => ?_)
          have hjj : -1000000 ≤ jj_6 ∧ jj_6 ≤ 1000000 := by rw [e_jj_6]; unfold jw; split <;> exact bo _
          refine lv_istore (lv' := [(7, .int (zI (jj_6))), (6, .int (zI (to_5))), (5, .int (zI 1)), (4, .int (zI ((si_1 : Nat) : Int))), (0, .ref (a)), (1, .int (zI ((s0 : Nat) : Int))), (2, .int (zI ((nn : Nat) : Int))), (3, .int (zI ((j : Nat) : Int)))]) hx hb dX9_brokenOf_54 hl (by decide) rfl (fun ls hl => ?_)
          refine lv_iload hx hb dX9_brokenOf_56 (lv_at hl 1 rfl) ?_
          refine z_if_lt (tgt := 105) C ⟨by omega, by omega⟩ dX9_brokenOf_58 (by decide) (fun c_58 => ?_) (fun c_58 => ?_)
          · refine lv_iinc (v := zI ((j + 1 : Nat) : Int)) (lv' := [(3, .int (zI ((j + 1 : Nat) : Int))), (7, .int (zI (jj_6))), (6, .int (zI (to_5))), (5, .int (zI 1)), (4, .int (zI ((si_1 : Nat) : Int))), (0, .ref (a)), (1, .int (zI ((s0 : Nat) : Int))), (2, .int (zI ((nn : Nat) : Int)))]) hx hb dX9_brokenOf_105 hl (k := 7) rfl (zI_inc (by omega)) (by decide) rfl (fun ls hl => ?_)
            refine lv_goto (tgt := 4) hx hb dX9_brokenOf_108 (by decide) ?_
            exact ih4 (j + 1) (nn) (by first | with_reducible assumption | omega | with_reducible rfl) (by have ha : decide (j % 2 = 1) = true := decide_eq_true (by omega); simp only [mbN]; rw [ha, ← hs, ← e_si_1]; have hj9 := e_jj_6; first | (have h8 := bkT_neg (fa := f) (fl := fun q => f (16 + q)) (s := s0) e_to_5 c_58; omega) | (have h8 := bkT_j0 (w := w) (le := le) (rg := rgOf ra rl) (s := s0) (hj9.symm.trans c_63); omega) | (have h8 := bkT_yes (fa := f) (fl := fun q => f (16 + q)) (s := s0) e_to_5 (by rw [← hj9]; first | exact Or.inl ⟨c_81, by omega⟩ | exact Or.inr ⟨c_81, by omega⟩); omega) | (have h8 := bkT_no (fa := f) (fl := fun q => f (16 + q)) (s := s0) e_to_5 (by rw [← hj9]; first | exact Or.inl ⟨c_81, by omega⟩ | exact Or.inr ⟨c_81, by omega⟩); omega)) (by omega) ls (lv_sub hl [5, 6, 7, 0] rfl)
          · refine lv_iload hx hb dX9_brokenOf_61 (lv_at hl 0 rfl) ?_
            refine z_if_ne (tgt := 69) C ⟨by omega, by omega⟩ dX9_brokenOf_63 (by decide) (fun c_63 => ?_) (fun c_63 => ?_)
            · obtain ⟨to_5n, rfl⟩ : ∃ q : Nat, to_5 = (q : Int) := ⟨to_5.toNat, by omega⟩
              refine lv_iload_n hx hb dX9_brokenOf_69 rfl (lv_at hl 5 rfl) ?_
              refine lv_iload hx hb dX9_brokenOf_70 (lv_at hl 3 rfl) ?_
              refine z_cS (n := 2) (As := [.int (zI ((s0 : Nat) : Int)), .int (zI ((si_1 : Nat) : Int))]) (rest := []) C (k_X9_has l D dA (s0) (si_1) (by first | with_reducible assumption | omega | with_reducible rfl) (by first | with_reducible assumption | omega | with_reducible rfl)) (lw_S q2247 q2248 q124 q2249) (by decide +kernel) rfl ⟨Nat.le_of_ble_eq_true rfl, Nat.le_of_ble_eq_true rfl⟩ hl.1 (hP.sub [] rfl) rfl (Nat.le_of_ble_eq_true rfl) dX9_brokenOf_72 (Nat.zero_le _) (Nat.zero_le _) ?_
              refine lv_iload_n hx hb dX9_brokenOf_75 rfl (lv_at hl 5 rfl) ?_
              refine lv_iload hx hb dX9_brokenOf_76 (lv_at hl 1 rfl) ?_
              refine z_cS (n := 2) (As := [.int (zI ((s0 : Nat) : Int)), .int (zI ((to_5n : Nat) : Int))]) (rest := [.int (zB (s0.testBit si_1))]) C (k_X9_has l D dA (s0) (to_5n) (by first | with_reducible assumption | omega | with_reducible rfl) (by first | with_reducible assumption | omega | with_reducible rfl)) (lw_S q2247 q2248 q124 q2249) (by decide +kernel) rfl ⟨Nat.le_of_ble_eq_true rfl, Nat.le_of_ble_eq_true rfl⟩ hl.1 (hP.sub [] rfl) rfl (Nat.le_of_ble_eq_true rfl) dX9_brokenOf_78 (Nat.zero_le _) (Nat.zero_le _) ?_
              refine z_icmp_neB (tgt := 88) C dX9_brokenOf_81 (by decide) (fun c_81 => ?_) (fun c_81 => ?_)
              · refine z_iconst C dX9_brokenOf_88 ?_
                refine lv_iload hx hb dX9_brokenOf_89 (lv_at hl 0 rfl) ?_
                refine z_if_ge (tgt := 98) C ⟨by omega, by omega⟩ dX9_brokenOf_91 (by decide) (fun c_91 => ?_) (fun c_91 => ?_)
                · refine z_iconst C dX9_brokenOf_98 ?_
                  refine z_icmp_ne (tgt := 105) C ⟨by decide, by decide⟩ ⟨by decide, by decide⟩ dX9_brokenOf_99 (by decide) (fun c => absurd c (by decide)) (fun _ => ?_)
                  refine lv_iinc (v := zI ((nn + 1 : Nat) : Int)) (lv' := [(2, .int (zI ((nn + 1 : Nat) : Int))), (7, .int (zI (jj_6))), (6, .int (zI ((to_5n : Nat) : Int))), (5, .int (zI 1)), (4, .int (zI ((si_1 : Nat) : Int))), (0, .ref (a)), (1, .int (zI ((s0 : Nat) : Int))), (3, .int (zI ((j : Nat) : Int)))]) hx hb dX9_brokenOf_102 hl (k := 6) rfl (zI_inc (by omega)) (by decide) rfl (fun ls hl => ?_)
                  refine lv_iinc (v := zI ((j + 1 : Nat) : Int)) (lv' := [(3, .int (zI ((j + 1 : Nat) : Int))), (2, .int (zI ((nn + 1 : Nat) : Int))), (7, .int (zI (jj_6))), (6, .int (zI ((to_5n : Nat) : Int))), (5, .int (zI 1)), (4, .int (zI ((si_1 : Nat) : Int))), (0, .ref (a)), (1, .int (zI ((s0 : Nat) : Int)))]) hx hb dX9_brokenOf_105 hl (k := 7) rfl (zI_inc (by omega)) (by decide) rfl (fun ls hl => ?_)
                  refine lv_goto (tgt := 4) hx hb dX9_brokenOf_108 (by decide) ?_
                  exact ih4 (j + 1) (nn + 1) (by first | with_reducible assumption | omega | with_reducible rfl) (by have ha : decide (j % 2 = 1) = true := decide_eq_true (by omega); simp only [mbN]; rw [ha, ← hs, ← e_si_1]; have hj9 := e_jj_6; first | (have h8 := bkT_neg (fa := f) (fl := fun q => f (16 + q)) (s := s0) e_to_5 c_58; omega) | (have h8 := bkT_j0 (w := w) (le := le) (rg := rgOf ra rl) (s := s0) (hj9.symm.trans c_63); omega) | (have h8 := bkT_yes (fa := f) (fl := fun q => f (16 + q)) (s := s0) e_to_5 (by rw [← hj9]; first | exact Or.inl ⟨c_81, by omega⟩ | exact Or.inr ⟨c_81, by omega⟩); omega) | (have h8 := bkT_no (fa := f) (fl := fun q => f (16 + q)) (s := s0) e_to_5 (by rw [← hj9]; first | exact Or.inl ⟨c_81, by omega⟩ | exact Or.inr ⟨c_81, by omega⟩); omega)) (by omega) ls (lv_sub hl [6, 7, 1, 0] rfl)
                · refine z_iconst C dX9_brokenOf_94 ?_
                  refine lv_goto (tgt := 99) hx hb dX9_brokenOf_95 (by decide) ?_
                  refine z_icmp_ne (tgt := 105) C ⟨by decide, by decide⟩ ⟨by decide, by decide⟩ dX9_brokenOf_99 (by decide) (fun _ => ?_) (fun c => absurd c (by decide))
                  refine lv_iinc (v := zI ((j + 1 : Nat) : Int)) (lv' := [(3, .int (zI ((j + 1 : Nat) : Int))), (7, .int (zI (jj_6))), (6, .int (zI ((to_5n : Nat) : Int))), (5, .int (zI 1)), (4, .int (zI ((si_1 : Nat) : Int))), (0, .ref (a)), (1, .int (zI ((s0 : Nat) : Int))), (2, .int (zI ((nn : Nat) : Int)))]) hx hb dX9_brokenOf_105 hl (k := 7) rfl (zI_inc (by omega)) (by decide) rfl (fun ls hl => ?_)
                  refine lv_goto (tgt := 4) hx hb dX9_brokenOf_108 (by decide) ?_
                  exact ih4 (j + 1) (nn) (by first | with_reducible assumption | omega | with_reducible rfl) (by have ha : decide (j % 2 = 1) = true := decide_eq_true (by omega); simp only [mbN]; rw [ha, ← hs, ← e_si_1]; have hj9 := e_jj_6; first | (have h8 := bkT_neg (fa := f) (fl := fun q => f (16 + q)) (s := s0) e_to_5 c_58; omega) | (have h8 := bkT_j0 (w := w) (le := le) (rg := rgOf ra rl) (s := s0) (hj9.symm.trans c_63); omega) | (have h8 := bkT_yes (fa := f) (fl := fun q => f (16 + q)) (s := s0) e_to_5 (by rw [← hj9]; first | exact Or.inl ⟨c_81, by omega⟩ | exact Or.inr ⟨c_81, by omega⟩); omega) | (have h8 := bkT_no (fa := f) (fl := fun q => f (16 + q)) (s := s0) e_to_5 (by rw [← hj9]; first | exact Or.inl ⟨c_81, by omega⟩ | exact Or.inr ⟨c_81, by omega⟩); omega)) (by omega) ls (lv_sub hl [5, 6, 7, 0] rfl)
              · refine z_iconst C dX9_brokenOf_84 ?_
                refine lv_goto (tgt := 89) hx hb dX9_brokenOf_85 (by decide) ?_
                refine lv_iload hx hb dX9_brokenOf_89 (lv_at hl 0 rfl) ?_
                refine z_if_ge (tgt := 98) C ⟨by omega, by omega⟩ dX9_brokenOf_91 (by decide) (fun c_91 => ?_) (fun c_91 => ?_)
                · refine z_iconst C dX9_brokenOf_98 ?_
                  refine z_icmp_ne (tgt := 105) C ⟨by decide, by decide⟩ ⟨by decide, by decide⟩ dX9_brokenOf_99 (by decide) (fun _ => ?_) (fun c => absurd c (by decide))
                  refine lv_iinc (v := zI ((j + 1 : Nat) : Int)) (lv' := [(3, .int (zI ((j + 1 : Nat) : Int))), (7, .int (zI (jj_6))), (6, .int (zI ((to_5n : Nat) : Int))), (5, .int (zI 1)), (4, .int (zI ((si_1 : Nat) : Int))), (0, .ref (a)), (1, .int (zI ((s0 : Nat) : Int))), (2, .int (zI ((nn : Nat) : Int)))]) hx hb dX9_brokenOf_105 hl (k := 7) rfl (zI_inc (by omega)) (by decide) rfl (fun ls hl => ?_)
                  refine lv_goto (tgt := 4) hx hb dX9_brokenOf_108 (by decide) ?_
                  exact ih4 (j + 1) (nn) (by first | with_reducible assumption | omega | with_reducible rfl) (by have ha : decide (j % 2 = 1) = true := decide_eq_true (by omega); simp only [mbN]; rw [ha, ← hs, ← e_si_1]; have hj9 := e_jj_6; first | (have h8 := bkT_neg (fa := f) (fl := fun q => f (16 + q)) (s := s0) e_to_5 c_58; omega) | (have h8 := bkT_j0 (w := w) (le := le) (rg := rgOf ra rl) (s := s0) (hj9.symm.trans c_63); omega) | (have h8 := bkT_yes (fa := f) (fl := fun q => f (16 + q)) (s := s0) e_to_5 (by rw [← hj9]; first | exact Or.inl ⟨c_81, by omega⟩ | exact Or.inr ⟨c_81, by omega⟩); omega) | (have h8 := bkT_no (fa := f) (fl := fun q => f (16 + q)) (s := s0) e_to_5 (by rw [← hj9]; first | exact Or.inl ⟨c_81, by omega⟩ | exact Or.inr ⟨c_81, by omega⟩); omega)) (by omega) ls (lv_sub hl [5, 6, 7, 0] rfl)
                · refine z_iconst C dX9_brokenOf_94 ?_
                  refine lv_goto (tgt := 99) hx hb dX9_brokenOf_95 (by decide) ?_
                  refine z_icmp_ne (tgt := 105) C ⟨by decide, by decide⟩ ⟨by decide, by decide⟩ dX9_brokenOf_99 (by decide) (fun c => absurd c (by decide)) (fun _ => ?_)
                  refine lv_iinc (v := zI ((nn + 1 : Nat) : Int)) (lv' := [(2, .int (zI ((nn + 1 : Nat) : Int))), (7, .int (zI (jj_6))), (6, .int (zI ((to_5n : Nat) : Int))), (5, .int (zI 1)), (4, .int (zI ((si_1 : Nat) : Int))), (0, .ref (a)), (1, .int (zI ((s0 : Nat) : Int))), (3, .int (zI ((j : Nat) : Int)))]) hx hb dX9_brokenOf_102 hl (k := 6) rfl (zI_inc (by omega)) (by decide) rfl (fun ls hl => ?_)
                  refine lv_iinc (v := zI ((j + 1 : Nat) : Int)) (lv' := [(3, .int (zI ((j + 1 : Nat) : Int))), (2, .int (zI ((nn + 1 : Nat) : Int))), (7, .int (zI (jj_6))), (6, .int (zI ((to_5n : Nat) : Int))), (5, .int (zI 1)), (4, .int (zI ((si_1 : Nat) : Int))), (0, .ref (a)), (1, .int (zI ((s0 : Nat) : Int)))]) hx hb dX9_brokenOf_105 hl (k := 7) rfl (zI_inc (by omega)) (by decide) rfl (fun ls hl => ?_)
                  refine lv_goto (tgt := 4) hx hb dX9_brokenOf_108 (by decide) ?_
                  exact ih4 (j + 1) (nn + 1) (by first | with_reducible assumption | omega | with_reducible rfl) (by have ha : decide (j % 2 = 1) = true := decide_eq_true (by omega); simp only [mbN]; rw [ha, ← hs, ← e_si_1]; have hj9 := e_jj_6; first | (have h8 := bkT_neg (fa := f) (fl := fun q => f (16 + q)) (s := s0) e_to_5 c_58; omega) | (have h8 := bkT_j0 (w := w) (le := le) (rg := rgOf ra rl) (s := s0) (hj9.symm.trans c_63); omega) | (have h8 := bkT_yes (fa := f) (fl := fun q => f (16 + q)) (s := s0) e_to_5 (by rw [← hj9]; first | exact Or.inl ⟨c_81, by omega⟩ | exact Or.inr ⟨c_81, by omega⟩); omega) | (have h8 := bkT_no (fa := f) (fl := fun q => f (16 + q)) (s := s0) e_to_5 (by rw [← hj9]; first | exact Or.inl ⟨c_81, by omega⟩ | exact Or.inr ⟨c_81, by omega⟩); omega)) (by omega) ls (lv_sub hl [6, 7, 1, 0] rfl)
            · refine lv_goto (tgt := 105) hx hb dX9_brokenOf_66 (by decide) ?_
              refine lv_iinc (v := zI ((j + 1 : Nat) : Int)) (lv' := [(3, .int (zI ((j + 1 : Nat) : Int))), (7, .int (zI (jj_6))), (6, .int (zI (to_5))), (5, .int (zI 1)), (4, .int (zI ((si_1 : Nat) : Int))), (0, .ref (a)), (1, .int (zI ((s0 : Nat) : Int))), (2, .int (zI ((nn : Nat) : Int)))]) hx hb dX9_brokenOf_105 hl (k := 7) rfl (zI_inc (by omega)) (by decide) rfl (fun ls hl => ?_)
              refine lv_goto (tgt := 4) hx hb dX9_brokenOf_108 (by decide) ?_
              exact ih4 (j + 1) (nn) (by first | with_reducible assumption | omega | with_reducible rfl) (by have ha : decide (j % 2 = 1) = true := decide_eq_true (by omega); simp only [mbN]; rw [ha, ← hs, ← e_si_1]; have hj9 := e_jj_6; first | (have h8 := bkT_neg (fa := f) (fl := fun q => f (16 + q)) (s := s0) e_to_5 c_58; omega) | (have h8 := bkT_j0 (w := w) (le := le) (rg := rgOf ra rl) (s := s0) (hj9.symm.trans c_63); omega) | (have h8 := bkT_yes (fa := f) (fl := fun q => f (16 + q)) (s := s0) e_to_5 (by rw [← hj9]; first | exact Or.inl ⟨c_81, by omega⟩ | exact Or.inr ⟨c_81, by omega⟩); omega) | (have h8 := bkT_no (fa := f) (fl := fun q => f (16 + q)) (s := s0) e_to_5 (by rw [← hj9]; first | exact Or.inl ⟨c_81, by omega⟩ | exact Or.inr ⟨c_81, by omega⟩); omega)) (by omega) ls (lv_sub hl [5, 6, 7, 0] rfl)
  exact L4 ((2 * (w * le) - 0) + 1) (0) (0) (by first | with_reducible assumption | omega | with_reducible rfl) rfl (by omega) ls (lv_sub hl [2, 3, 1, 0] rfl)
set_option maxHeartbeats 600000 in
set_option maxRecDepth 100000 in
theorem k_X9_oddOf (l : Launch) (D : va_G) (dA : Nat → ClassId) (a : Nat) (v0 v1 v2 v3 v4 v5 v6 v7 v8 v9 v10 v11 v12 v13 v14 v15 v16 v22 v23 v24 v25 v26 v27 v28 v29 v30 v31 v32 v33 v34 v35 v36 v37 v38 v39 v40 v41 v42 v43 v44 : Value) (w le : Nat) (ra rl : Bool) (qn : Nat) (f : Nat → Int) (k : Nat) (hwl : w * le ≤ 16) (hk : k < w * le) (b3 : ∀ j, j < 32 → -3 ≤ f j ∧ f j ≤ 3) : zM l yX9_oddOf cX9_oddOf 5 (some .int) (zRm 2 48) D dA [.ref (a), .int (zI ((k : Nat) : Int))] [(a, .inr (9, [v0, v1, v2, v3, v4, v5, v6, v7, v8, v9, v10, v11, v12, v13, v14, v15, v16, .int (zI ((w : Nat) : Int)), .int (zI ((le : Nat) : Int)), .int (zB (ra)), .int (zB (rl)), .ref (qn), v22, v23, v24, v25, v26, v27, v28, v29, v30, v31, v32, v33, v34, v35, v36, v37, v38, v39, v40, v41, v42, v43, v44])), (qn, .inl (dA 3, 66, .inl (fun j => zI (f j))))] (some (.int (zI (sqr w le (rgOf ra rl) f (fun q => f (16 + q)) k)))) := by
  refine zM.of (by decide +kernel) rfl ?_
  intro pp ee ss mm args below meth cd Q C hr hlk hQ hP ls hl
  have hx := C.1.1
  have hb := C.1.2.1
  have hl : lv_has ls 5 [(0, .ref (a)), (1, .int (zI ((k : Nat) : Int)))] := hl
  refine lv_aload_n hx hb dX9_oddOf_0 rfl (lv_at hl 0 rfl) ?_
  refine lv_iload_n hx hb dX9_oddOf_1 rfl (lv_at hl 1 rfl) ?_
  refine z_iconst C dX9_oddOf_2 ?_
  refine z_cV (n := 2) (As := [.int (zI ((k : Nat) : Int)), .int (zI 0)]) (rest := []) C hP (k_X9_tieTo l D dA (a) (v0) (v1) (v2) (v3) (v4) (v5) (v6) (v7) (v8) (v9) (v10) (v11) (v12) (v13) (v14) (v15) (v16) (v22) (v23) (v24) (v25) (v26) (v27) (v28) (v29) (v30) (v31) (v32) (v33) (v34) (v35) (v36) (v37) (v38) (v39) (v40) (v41) (v42) (v43) (v44) (w) (le) (ra) (rl) (qn) (k) (false) (by first | with_reducible assumption | omega | with_reducible rfl) (by first | with_reducible assumption | omega | with_reducible rfl)) (lw_V q2128 q2130 qs82 q124 q2131) (by decide +kernel) rfl ⟨Nat.le_of_ble_eq_true rfl, Nat.le_of_ble_eq_true rfl⟩ hl.1 (hP.sub [0] rfl) 0 rfl rfl rfl (Nat.le_of_ble_eq_true rfl) dX9_oddOf_3 (Nat.zero_le _) (Nat.zero_le _) ?_
  refine z_nm (fun ri_1 e_ri_1 => ?_)
  have o_ri_1 := oth_lt (rgOf ra rl) false hk
  rw [← e_ri_1] at o_ri_1
  refine lv_istore_n (lv' := [(2, .int (zI (ri_1))), (0, .ref (a)), (1, .int (zI ((k : Nat) : Int)))]) hx hb dX9_oddOf_6 rfl hl (by decide) rfl (fun ls hl => ?_)
  refine lv_aload_n hx hb dX9_oddOf_7 rfl (lv_at hl 1 rfl) ?_
  refine lv_iload_n hx hb dX9_oddOf_8 rfl (lv_at hl 2 rfl) ?_
  refine z_iconst C dX9_oddOf_9 ?_
  refine z_cV (n := 2) (As := [.int (zI ((k : Nat) : Int)), .int (zI 1)]) (rest := []) C hP (k_X9_tieTo l D dA (a) (v0) (v1) (v2) (v3) (v4) (v5) (v6) (v7) (v8) (v9) (v10) (v11) (v12) (v13) (v14) (v15) (v16) (v22) (v23) (v24) (v25) (v26) (v27) (v28) (v29) (v30) (v31) (v32) (v33) (v34) (v35) (v36) (v37) (v38) (v39) (v40) (v41) (v42) (v43) (v44) (w) (le) (ra) (rl) (qn) (k) (true) (by first | with_reducible assumption | omega | with_reducible rfl) (by first | with_reducible assumption | omega | with_reducible rfl)) (lw_V q2128 q2130 qs82 q124 q2131) (by decide +kernel) rfl ⟨Nat.le_of_ble_eq_true rfl, Nat.le_of_ble_eq_true rfl⟩ hl.1 (hP.sub [0] rfl) 0 rfl rfl rfl (Nat.le_of_ble_eq_true rfl) dX9_oddOf_10 (Nat.zero_le _) (Nat.zero_le _) ?_
  refine z_nm (fun be_2 e_be_2 => ?_)
  have o_be_2 := oth_lt (rgOf ra rl) true hk
  rw [← e_be_2] at o_be_2
  refine lv_istore_n (lv' := [(3, .int (zI (be_2))), (2, .int (zI (ri_1))), (0, .ref (a)), (1, .int (zI ((k : Nat) : Int)))]) hx hb dX9_oddOf_13 rfl hl (by decide) rfl (fun ls hl => ?_)
  refine lv_iload_n hx hb dX9_oddOf_14 rfl (lv_at hl 1 rfl) ?_
  refine z_if_lt (tgt := 22) C ⟨by omega, by omega⟩ dX9_oddOf_15 (by decide) (fun c_15 => ?_) (fun c_15 => ?_)
  · refine z_bipush C dX9_oddOf_22 rfl ?_
    exact z_iret C hlk hr hQ (by rw [sqr_out e_ri_1 e_be_2 (by omega)]) dX9_oddOf_24
  · refine lv_iload_n hx hb dX9_oddOf_18 rfl (lv_at hl 0 rfl) ?_
    refine z_if_ge (tgt := 25) C ⟨by omega, by omega⟩ dX9_oddOf_19 (by decide) (fun c_19 => ?_) (fun c_19 => ?_)
    · obtain ⟨ri_1n, rfl⟩ : ∃ q : Nat, ri_1 = (q : Int) := ⟨ri_1.toNat, by omega⟩
      obtain ⟨be_2n, rfl⟩ : ∃ q : Nat, be_2 = (q : Int) := ⟨be_2.toNat, by omega⟩
      refine lv_aload_n hx hb dX9_oddOf_25 rfl (lv_at hl 2 rfl) ?_
      refine z_get C hP 0 rfl rfl in_X9 21 (by decide) q1905 rfl dX9_oddOf_26 ?_
      refine z_iconst C dX9_oddOf_29 ?_
      refine lv_iload_n hx hb dX9_oddOf_30 rfl (lv_at hl 3 rfl) ?_
      refine z_iadd0 C dX9_oddOf_31 ?_
      refine z_iald C hP 1 rfl (k) rfl (by omega) (by decide) dX9_oddOf_32 ?_
      refine lv_aload_n hx hb dX9_oddOf_33 rfl (lv_at hl 2 rfl) ?_
      refine z_get C hP 0 rfl rfl in_X9 21 (by decide) q1905 rfl dX9_oddOf_34 ?_
      refine z_bipush C dX9_oddOf_37 rfl ?_
      refine lv_iload_n hx hb dX9_oddOf_39 rfl (lv_at hl 3 rfl) ?_
      refine z_iaddN C (16) (k) rfl rfl dX9_oddOf_40 ?_
      refine z_iald C hP 1 rfl ((16 + k)) rfl (by omega) (by decide) dX9_oddOf_41 ?_
      refine z_imul C dX9_oddOf_42 ?_
      refine lv_aload_n hx hb dX9_oddOf_43 rfl (lv_at hl 2 rfl) ?_
      refine z_get C hP 0 rfl rfl in_X9 21 (by decide) q1905 rfl dX9_oddOf_44 ?_
      refine z_bipush C dX9_oddOf_47 rfl ?_
      refine lv_iload_n hx hb dX9_oddOf_49 rfl (lv_at hl 1 rfl) ?_
      refine z_iaddN C (16) (ri_1n) rfl rfl dX9_oddOf_50 ?_
      refine z_iald C hP 1 rfl ((16 + ri_1n)) rfl (by omega) (by decide) dX9_oddOf_51 ?_
      refine z_imul C dX9_oddOf_52 ?_
      refine lv_aload_n hx hb dX9_oddOf_53 rfl (lv_at hl 2 rfl) ?_
      refine z_get C hP 0 rfl rfl in_X9 21 (by decide) q1905 rfl dX9_oddOf_54 ?_
      refine z_iconst C dX9_oddOf_57 ?_
      refine lv_iload_n hx hb dX9_oddOf_58 rfl (lv_at hl 0 rfl) ?_
      refine z_iadd0 C dX9_oddOf_59 ?_
      refine z_iald C hP 1 rfl (be_2n) rfl (by omega) (by decide) dX9_oddOf_60 ?_
      refine z_imul C dX9_oddOf_61 ?_
      have hp := mul3 (mul3 (mul3 (b3 k (by omega)) (b3 (16 + k) (by omega))) (b3 (16 + ri_1n) (by omega))) (b3 be_2n (by omega))
      refine lv_istore (lv' := [(4, .int (zI ((((f k) * (f (16 + k))) * (f (16 + ri_1n))) * (f be_2n)))), (3, .int (zI ((be_2n : Nat) : Int))), (2, .int (zI ((ri_1n : Nat) : Int))), (0, .ref (a)), (1, .int (zI ((k : Nat) : Int)))]) hx hb dX9_oddOf_62 hl (by decide) rfl (fun ls hl => ?_)
      refine lv_iload hx hb dX9_oddOf_64 (lv_at hl 0 rfl) ?_
      refine z_if_ge (tgt := 73) C ⟨by omega, by omega⟩ dX9_oddOf_66 (by decide) (fun c_66 => ?_) (fun c_66 => ?_)
      · refine z_iconst C dX9_oddOf_73 ?_
        exact z_iret C hlk hr hQ (by rw [sqr_m e_ri_1 e_be_2]; first | (rw [if_neg (by omega)]; done) | (rw [if_pos (by omega)]; done)) dX9_oddOf_74
      · refine z_iconst C dX9_oddOf_69 ?_
        refine lv_goto (tgt := 74) hx hb dX9_oddOf_70 (by decide) ?_
        exact z_iret C hlk hr hQ (by rw [sqr_m e_ri_1 e_be_2]; first | (rw [if_neg (by omega)]; done) | (rw [if_pos (by omega)]; done)) dX9_oddOf_74
    · refine z_bipush C dX9_oddOf_22 rfl ?_
      exact z_iret C hlk hr hQ (by rw [sqr_out e_ri_1 e_be_2 (by omega)]) dX9_oddOf_24
set_option maxHeartbeats 600000 in
set_option maxRecDepth 100000 in
theorem k_X9_square (l : Launch) (D : va_G) (dA : Nat → ClassId) (a : Nat) (v0 v1 v2 v3 v4 v5 v6 v7 v8 v9 v10 v11 v12 v13 v14 v15 v16 v22 v23 v24 v25 v26 v27 v28 v29 v30 v31 v32 v33 v34 v35 v36 v37 v38 v39 v40 v41 v42 v43 v44 : Value) (w le : Nat) (ra rl : Bool) (qn : Nat) (f : Nat → Int) (k : Int) (hwl : w * le ≤ 16) (hk : zR k) (b3 : ∀ j, j < 32 → -3 ≤ f j ∧ f j ≤ 3) : zM l yX9_square cX9_square 2 (some .int) (zRm 3 72) D dA [.ref (a), .int (zI (k))] [(a, .inr (9, [v0, v1, v2, v3, v4, v5, v6, v7, v8, v9, v10, v11, v12, v13, v14, v15, v16, .int (zI ((w : Nat) : Int)), .int (zI ((le : Nat) : Int)), .int (zB (ra)), .int (zB (rl)), .ref (qn), v22, v23, v24, v25, v26, v27, v28, v29, v30, v31, v32, v33, v34, v35, v36, v37, v38, v39, v40, v41, v42, v43, v44])), (qn, .inl (dA 3, 66, .inl (fun j => zI (f j))))] (some (.int (zI (if 0 ≤ k ∧ k < ((w * le : Nat) : Int) then sqr w le (rgOf ra rl) f (fun q => f (16 + q)) k.toNat else -1)))) := by
  refine zM.of (by decide +kernel) rfl ?_
  intro pp ee ss mm args below meth cd Q C hr hlk hQ hP ls hl
  have hx := C.1.1
  have hb := C.1.2.1
  have hl : lv_has ls 2 [(0, .ref (a)), (1, .int (zI (k)))] := hl
  refine lv_aload_n hx hb dX9_square_0 rfl (lv_at hl 0 rfl) ?_
  refine lv_iload_n hx hb dX9_square_1 rfl (lv_at hl 1 rfl) ?_
  refine z_cV (n := 1) (As := [.int (zI (k))]) (rest := []) C hP (k_X9_isSite l D dA (a) (v0) (v1) (v2) (v3) (v4) (v5) (v6) (v7) (v8) (v9) (v10) (v11) (v12) (v13) (v14) (v15) (v16) (v22) (v23) (v24) (v25) (v26) (v27) (v28) (v29) (v30) (v31) (v32) (v33) (v34) (v35) (v36) (v37) (v38) (v39) (v40) (v41) (v42) (v43) (v44) (w) (le) (ra) (rl) (qn) ((k)) (by first | with_reducible assumption | omega | with_reducible rfl) (by first | with_reducible assumption | omega | with_reducible rfl)) (lw_V q2124 q2126 qs81 q124 q2127) (by decide +kernel) rfl ⟨Nat.le_of_ble_eq_true rfl, Nat.le_of_ble_eq_true rfl⟩ hl.1 (hP.sub [0] rfl) 0 rfl rfl rfl (Nat.le_of_ble_eq_true rfl) dX9_square_2 (Nat.zero_le _) (Nat.zero_le _) ?_
  refine z_if_eqB (tgt := 16) C dX9_square_5 (by decide) (fun c_5 => ?_) (fun c_5 => ?_)
  · have c_5 := of_decide_eq_false c_5
    refine z_iconst C dX9_square_16 ?_
    exact z_iret C hlk hr hQ (by first | (rw [if_neg c_5]; done) | (rw [if_pos (by omega)]; simp)) dX9_square_17
  · have c_5 := of_decide_eq_true c_5
    obtain ⟨kn, rfl⟩ : ∃ q : Nat, k = (q : Int) := ⟨k.toNat, by omega⟩
    refine lv_aload_n hx hb dX9_square_8 rfl (lv_at hl 0 rfl) ?_
    refine lv_iload_n hx hb dX9_square_9 rfl (lv_at hl 1 rfl) ?_
    refine z_cV (n := 1) (As := [.int (zI ((kn : Nat) : Int))]) (rest := []) C hP (k_X9_oddOf l D dA (a) (v0) (v1) (v2) (v3) (v4) (v5) (v6) (v7) (v8) (v9) (v10) (v11) (v12) (v13) (v14) (v15) (v16) (v22) (v23) (v24) (v25) (v26) (v27) (v28) (v29) (v30) (v31) (v32) (v33) (v34) (v35) (v36) (v37) (v38) (v39) (v40) (v41) (v42) (v43) (v44) (w) (le) (ra) (rl) (qn) (f) (kn) (by first | with_reducible assumption | omega | with_reducible rfl) (by first | with_reducible assumption | omega | with_reducible rfl) (by first | with_reducible assumption | omega | with_reducible rfl)) (lw_V q2336 q2338 qs98 q124 q2339) (by decide +kernel) rfl ⟨Nat.le_of_ble_eq_true rfl, Nat.le_of_ble_eq_true rfl⟩ hl.1 (hP.sub [0, 1] rfl) 0 rfl rfl rfl (Nat.le_of_ble_eq_true rfl) dX9_square_10 (Nat.zero_le _) (Nat.zero_le _) ?_
    refine lv_goto (tgt := 17) hx hb dX9_square_13 (by decide) ?_
    exact z_iret C hlk hr hQ (by first | (rw [if_neg c_5]; done) | (rw [if_pos (by omega)]; simp)) dX9_square_17
set_option maxHeartbeats 600000 in
set_option maxRecDepth 100000 in
theorem k_X9_clusterOf (l : Launch) (D : va_G) (dA : Nat → ClassId) (a : Nat) (v0 v1 v2 v3 v4 v5 v6 v7 v8 v9 v10 v11 v12 v13 v14 v15 v16 v22 v23 v24 v25 v26 v27 v28 v29 v30 v31 v32 v33 v34 v35 v36 v37 v38 v39 v40 v41 v42 v43 v44 : Value) (w le : Nat) (ra rl : Bool) (qn : Nat) (f : Nat → Int) (st k : Nat) (hwl : w * le ≤ 16) (hk : k < w * le) (hst : st < 2147483648) (h64 : f 64 = (st : Int)) : zM l yX9_clusterOf cX9_clusterOf 7 (some .int) (zRm 2 48) D dA [.ref (a), .int (zI ((k : Nat) : Int))] [(a, .inr (9, [v0, v1, v2, v3, v4, v5, v6, v7, v8, v9, v10, v11, v12, v13, v14, v15, v16, .int (zI ((w : Nat) : Int)), .int (zI ((le : Nat) : Int)), .int (zB (ra)), .int (zB (rl)), .ref (qn), v22, v23, v24, v25, v26, v27, v28, v29, v30, v31, v32, v33, v34, v35, v36, v37, v38, v39, v40, v41, v42, v43, v44])), (qn, .inl (dA 3, 66, .inl (fun j => zI (f j))))] (some (.int (zI ((mcl w le (rgOf ra rl) st k : Nat) : Int)))) := by
  refine zM.of (by decide +kernel) rfl ?_
  intro pp ee ss mm args below meth cd Q C hr hlk hQ hP ls hl
  have hx := C.1.1
  have hb := C.1.2.1
  have hl : lv_has ls 7 [(0, .ref (a)), (1, .int (zI ((k : Nat) : Int)))] := hl
  have hkk : 2 ^ k < 2 ^ 16 := Nat.pow_lt_pow_right (by decide) (by omega)
  refine z_iconst C dX9_clusterOf_0 ?_
  refine lv_iload_n hx hb dX9_clusterOf_1 rfl (lv_at hl 1 rfl) ?_
  refine z_ishl1 C (k) rfl rfl (by omega) dX9_clusterOf_2 ?_
  refine lv_istore_n (lv' := [(2, .int (zI (((2 ^ k) : Nat) : Int))), (0, .ref (a)), (1, .int (zI ((k : Nat) : Int)))]) hx hb dX9_clusterOf_3 rfl hl (by decide) rfl (fun ls hl => ?_)
  refine z_iconst C dX9_clusterOf_4 ?_
  refine lv_istore_n (lv' := [(3, .int (zI 0)), (2, .int (zI (((2 ^ k) : Nat) : Int))), (0, .ref (a)), (1, .int (zI ((k : Nat) : Int)))]) hx hb dX9_clusterOf_5 rfl hl (by decide) rfl (fun ls hl => ?_)
  have L6 : ∀ (N : Nat) (fu set was : Nat), (mcl w le (rgOf ra rl) st k = mcR w le (rgOf ra rl) st (fu + 1) set was) → (set < 2 ^ 16) → (was ≤ set) → (65536 - was ≤ fu) → (fu) < N → ∀ ls : Array Slot, lv_has ls 7 [(0, .ref (a)), (1, .int (zI ((k : Nat) : Int))), (2, .int (zI ((set : Nat) : Int))), (3, .int (zI ((was : Nat) : Int)))] → W pp l ee (zRm 2 48) ss mm args below meth cd ss.heap [] 0 0 Q (F0 mm 6 ls []) := by
    intro N
    induction N with
    | zero => intro fu set was _ _ _ _ hm; exact absurd hm (Nat.not_lt_zero _)
    | succ N ih6 =>
      intro fu set was hR hlt hwl2 hf hm6 ls hl
      refine lv_iload_n hx hb dX9_clusterOf_6 rfl (lv_at hl 2 rfl) ?_
      refine lv_iload_n hx hb dX9_clusterOf_7 rfl (lv_at hl 3 rfl) ?_
      refine z_icmp_eq (tgt := 128) C ⟨by omega, by omega⟩ ⟨by omega, by omega⟩ dX9_clusterOf_8 (by decide) (fun c_8 => ?_) (fun c_8 => ?_)
      · refine lv_iload_n hx hb dX9_clusterOf_128 rfl (lv_at hl 2 rfl) ?_
        exact z_iret C hlk hr hQ (by rw [hR, mcR, if_pos (by omega)]) dX9_clusterOf_129
      · refine lv_iload_n hx hb dX9_clusterOf_11 rfl (lv_at hl 2 rfl) ?_
        refine lv_istore_n (lv' := [(3, .int (zI ((set : Nat) : Int))), (0, .ref (a)), (1, .int (zI ((k : Nat) : Int))), (2, .int (zI ((set : Nat) : Int)))]) hx hb dX9_clusterOf_12 rfl hl (by decide) rfl (fun ls hl => ?_)
        refine z_iconst C dX9_clusterOf_13 ?_
        refine lv_istore (lv' := [(4, .int (zI 0)), (3, .int (zI ((set : Nat) : Int))), (0, .ref (a)), (1, .int (zI ((k : Nat) : Int))), (2, .int (zI ((set : Nat) : Int)))]) hx hb dX9_clusterOf_14 hl (by decide) rfl (fun ls hl => ?_)
        have L16 : ∀ (N : Nat) (j s1 : Nat), (j ≤ 2 * (w * le)) → (s1 = mcS w le (rgOf ra rl) st set j) → (s1 < 2 ^ 16) → (2 * (w * le) - j) < N → ∀ ls : Array Slot, lv_has ls 7 [(0, .ref (a)), (1, .int (zI ((k : Nat) : Int))), (2, .int (zI ((s1 : Nat) : Int))), (3, .int (zI ((set : Nat) : Int))), (4, .int (zI ((j : Nat) : Int)))] → W pp l ee (zRm 2 48) ss mm args below meth cd ss.heap [] 0 0 Q (F0 mm 16 ls []) := by
          intro N
          induction N with
          | zero => intro j s1 _ _ _ hm; exact absurd hm (Nat.not_lt_zero _)
          | succ N ih16 =>
            intro j s1 hj hs hlt1 hm16 ls hl
            refine lv_iload hx hb dX9_clusterOf_16 (lv_at hl 4 rfl) ?_
            refine z_iconst C dX9_clusterOf_18 ?_
            refine lv_aload_n hx hb dX9_clusterOf_19 rfl (lv_at hl 0 rfl) ?_
            refine z_cV (n := 0) (As := []) (rest := [.int (zI 2), .int (zI ((j : Nat) : Int))]) C hP (k_X9_sites l D dA (a) (v0) (v1) (v2) (v3) (v4) (v5) (v6) (v7) (v8) (v9) (v10) (v11) (v12) (v13) (v14) (v15) (v16) (v22) (v23) (v24) (v25) (v26) (v27) (v28) (v29) (v30) (v31) (v32) (v33) (v34) (v35) (v36) (v37) (v38) (v39) (v40) (v41) (v42) (v43) (v44) (w) (le) (ra) (rl) (qn)) (lw_V q2112 q2114 qs80 q124 q2115) (by decide +kernel) rfl ⟨Nat.le_of_ble_eq_true rfl, Nat.le_of_ble_eq_true rfl⟩ hl.1 (hP.sub [0] rfl) 0 rfl rfl rfl (Nat.le_of_ble_eq_true rfl) dX9_clusterOf_20 (Nat.zero_le _) (Nat.zero_le _) ?_
            refine z_imulN C (2) (w * le) rfl rfl dX9_clusterOf_23 ?_
            refine z_icmp_ge (tgt := 125) C ⟨by omega, by omega⟩ ⟨by omega, by omega⟩ dX9_clusterOf_24 (by decide) (fun c_24 => ?_) (fun c_24 => ?_)
            · refine lv_goto (tgt := 6) hx hb dX9_clusterOf_125 (by decide) ?_
              exact ih6 (fu - 1) (s1) (set) (by rw [hR, mcR, if_neg (by omega), hs, show j = 2 * (w * le) by omega, show fu - 1 + 1 = fu by omega]) (by omega) (by rw [hs]; exact (mcS_lt hwl hlt j hj).2) (by first | with_reducible assumption | omega | with_reducible rfl) (by omega) ls (lv_sub hl [0, 1, 2, 3] rfl)
            · refine lv_iload hx hb dX9_clusterOf_27 (lv_at hl 4 rfl) ?_
              refine z_iconst C dX9_clusterOf_29 ?_
              refine z_idivN C (j) (2) rfl rfl (by omega) ⟨by omega, by omega⟩ dX9_clusterOf_30 ?_
              refine z_nmN (fun si_1 e_si_1 => ?_)
              have hk2 : si_1 < w * le := by omega
              refine lv_istore (lv' := [(5, .int (zI ((si_1 : Nat) : Int))), (0, .ref (a)), (1, .int (zI ((k : Nat) : Int))), (2, .int (zI ((s1 : Nat) : Int))), (3, .int (zI ((set : Nat) : Int))), (4, .int (zI ((j : Nat) : Int)))]) hx hb dX9_clusterOf_31 hl (by decide) rfl (fun ls hl => ?_)
              refine lv_aload_n hx hb dX9_clusterOf_33 rfl (lv_at hl 1 rfl) ?_
              refine lv_iload hx hb dX9_clusterOf_34 (lv_at hl 0 rfl) ?_
              refine lv_iload hx hb dX9_clusterOf_36 (lv_at hl 5 rfl) ?_
              refine z_iconst C dX9_clusterOf_38 ?_
              refine z_iremN C (j) (2) rfl rfl (by omega) ⟨by omega, by omega⟩ dX9_clusterOf_39 ?_
              refine z_nmN (fun pr_2 e_pr_2 => ?_)
              have hpr : pr_2 < 2 := by omega
              refine z_iconst C dX9_clusterOf_40 ?_
              refine z_icmp_ne (tgt := 48) C ⟨by omega, by omega⟩ ⟨by decide, by decide⟩ dX9_clusterOf_41 (by decide) (fun c_41 => ?_) (fun c_41 => ?_)
              · refine z_iconst C dX9_clusterOf_48 ?_
                refine z_cV (n := 2) (As := [.int (zI ((si_1 : Nat) : Int)), .int (zI 0)]) (rest := []) C hP (k_X9_tieTo l D dA (a) (v0) (v1) (v2) (v3) (v4) (v5) (v6) (v7) (v8) (v9) (v10) (v11) (v12) (v13) (v14) (v15) (v16) (v22) (v23) (v24) (v25) (v26) (v27) (v28) (v29) (v30) (v31) (v32) (v33) (v34) (v35) (v36) (v37) (v38) (v39) (v40) (v41) (v42) (v43) (v44) (w) (le) (ra) (rl) (qn) (si_1) (false) (by first | with_reducible assumption | omega | with_reducible rfl) (by first | with_reducible assumption | omega | with_reducible rfl)) (lw_V q2128 q2130 qs82 q124 q2131) (by decide +kernel) rfl ⟨Nat.le_of_ble_eq_true rfl, Nat.le_of_ble_eq_true rfl⟩ hl.1 (hP.sub [0] rfl) 0 rfl rfl rfl (Nat.le_of_ble_eq_true rfl) dX9_clusterOf_49 (Nat.zero_le _) (Nat.zero_le _) ?_
                refine z_nm (fun to_3 e_to_3 => ?_)
                have o_to_3 := oth_lt (rgOf ra rl) false hk2
                rw [← e_to_3] at o_to_3
                refine lv_istore (lv' := [(6, .int (zI (to_3))), (5, .int (zI ((si_1 : Nat) : Int))), (0, .ref (a)), (1, .int (zI ((k : Nat) : Int))), (2, .int (zI ((s1 : Nat) : Int))), (3, .int (zI ((set : Nat) : Int))), (4, .int (zI ((j : Nat) : Int)))]) hx hb dX9_clusterOf_52 hl (by decide) rfl (fun ls hl => ?_)
                refine lv_iload hx hb dX9_clusterOf_54 (lv_at hl 0 rfl) ?_
                refine z_if_lt (tgt := 119) C ⟨by omega, by omega⟩ dX9_clusterOf_56 (by decide) (fun c_56 => ?_) (fun c_56 => ?_)
                · refine lv_iinc (v := zI ((j + 1 : Nat) : Int)) (lv' := [(4, .int (zI ((j + 1 : Nat) : Int))), (6, .int (zI (to_3))), (5, .int (zI ((si_1 : Nat) : Int))), (0, .ref (a)), (1, .int (zI ((k : Nat) : Int))), (2, .int (zI ((s1 : Nat) : Int))), (3, .int (zI ((set : Nat) : Int)))]) hx hb dX9_clusterOf_119 hl (k := 6) rfl (zI_inc (by omega)) (by decide) rfl (fun ls hl => ?_)
                  refine lv_goto (tgt := 16) hx hb dX9_clusterOf_122 (by decide) ?_
                  exact ih16 (j + 1) (s1) (by first | with_reducible assumption | omega | with_reducible rfl) (by have e9 := e_to_3; rw [e_si_1] at e9; have ha : decide (j % 2 = 1) = false := decide_eq_false (by omega); simp only [mcS]; rw [ha, ← hs, ← e_si_1]; rw [← e_si_1] at e9; first | exact (mcT_neg e9 c_56).symm | exact (mcT_ne e9 c_83).symm | exact (mcT_in e9 c_83 (Or.inl c_95)).symm | exact (mcT_in e9 c_83 (Or.inr c_104)).symm | exact (mcT_out e9 c_95 c_104).symm) (by first | omega | exact Nat.or_lt_two_pow (by omega) (Nat.or_lt_two_pow hp1 hp2)) (by omega) ls (lv_sub hl [3, 4, 5, 6, 0] rfl)
                · obtain ⟨to_3n, rfl⟩ : ∃ q : Nat, to_3 = (q : Int) := ⟨to_3.toNat, by omega⟩
                  refine lv_aload_n hx hb dX9_clusterOf_59 rfl (lv_at hl 2 rfl) ?_
                  refine z_get C hP 0 rfl rfl in_X9 21 (by decide) q1905 rfl dX9_clusterOf_60 ?_
                  refine z_bipush C dX9_clusterOf_63 rfl ?_
                  refine z_iald C hP 1 rfl (64) rfl (by omega) (by decide) dX9_clusterOf_65 ?_
                  rw [h64]
                  refine lv_iload hx hb dX9_clusterOf_66 (lv_at hl 1 rfl) ?_
                  refine z_cS (n := 2) (As := [.int (zI ((st : Nat) : Int)), .int (zI ((si_1 : Nat) : Int))]) (rest := []) C (k_X9_has l D dA (st) (si_1) (by first | with_reducible assumption | omega | with_reducible rfl) (by first | with_reducible assumption | omega | with_reducible rfl)) (lw_S q2247 q2248 q124 q2249) (by decide +kernel) rfl ⟨Nat.le_of_ble_eq_true rfl, Nat.le_of_ble_eq_true rfl⟩ hl.1 (hP.sub [] rfl) rfl (Nat.le_of_ble_eq_true rfl) dX9_clusterOf_68 (Nat.zero_le _) (Nat.zero_le _) ?_
                  refine lv_aload_n hx hb dX9_clusterOf_71 rfl (lv_at hl 2 rfl) ?_
                  refine z_get C hP 0 rfl rfl in_X9 21 (by decide) q1905 rfl dX9_clusterOf_72 ?_
                  refine z_bipush C dX9_clusterOf_75 rfl ?_
                  refine z_iald C hP 1 rfl (64) rfl (by omega) (by decide) dX9_clusterOf_77 ?_
                  rw [h64]
                  refine lv_iload hx hb dX9_clusterOf_78 (lv_at hl 0 rfl) ?_
                  refine z_cS (n := 2) (As := [.int (zI ((st : Nat) : Int)), .int (zI ((to_3n : Nat) : Int))]) (rest := [.int (zB (st.testBit si_1))]) C (k_X9_has l D dA (st) (to_3n) (by first | with_reducible assumption | omega | with_reducible rfl) (by first | with_reducible assumption | omega | with_reducible rfl)) (lw_S q2247 q2248 q124 q2249) (by decide +kernel) rfl ⟨Nat.le_of_ble_eq_true rfl, Nat.le_of_ble_eq_true rfl⟩ hl.1 (hP.sub [] rfl) rfl (Nat.le_of_ble_eq_true rfl) dX9_clusterOf_80 (Nat.zero_le _) (Nat.zero_le _) ?_
                  refine z_icmp_eqB (tgt := 89) C dX9_clusterOf_83 (by decide) (fun c_83 => ?_) (fun c_83 => ?_)
                  · refine lv_iload_n hx hb dX9_clusterOf_89 rfl (lv_at hl 4 rfl) ?_
                    refine lv_iload hx hb dX9_clusterOf_90 (lv_at hl 1 rfl) ?_
                    refine z_cS (n := 2) (As := [.int (zI ((s1 : Nat) : Int)), .int (zI ((si_1 : Nat) : Int))]) (rest := []) C (k_X9_has l D dA (s1) (si_1) (by first | with_reducible assumption | omega | with_reducible rfl) (by first | with_reducible assumption | omega | with_reducible rfl)) (lw_S q2247 q2248 q124 q2249) (by decide +kernel) rfl ⟨Nat.le_of_ble_eq_true rfl, Nat.le_of_ble_eq_true rfl⟩ hl.1 (hP.sub [] rfl) rfl (Nat.le_of_ble_eq_true rfl) dX9_clusterOf_92 (Nat.zero_le _) (Nat.zero_le _) ?_
                    refine z_if_neB (tgt := 107) C dX9_clusterOf_95 (by decide) (fun c_95 => ?_) (fun c_95 => ?_)
                    · refine lv_iload_n hx hb dX9_clusterOf_107 rfl (lv_at hl 4 rfl) ?_
                      refine z_iconst C dX9_clusterOf_108 ?_
                      have hp1 : 2 ^ si_1 < 2 ^ 16 := Nat.pow_lt_pow_right (by decide) (by omega)
                      have hp2 : 2 ^ to_3n < 2 ^ 16 := Nat.pow_lt_pow_right (by decide) (by omega)
                      refine lv_iload hx hb dX9_clusterOf_109 (lv_at hl 1 rfl) ?_
                      refine z_ishl1 C (si_1) rfl rfl (by omega) dX9_clusterOf_111 ?_
                      refine z_iconst C dX9_clusterOf_112 ?_
                      refine lv_iload hx hb dX9_clusterOf_113 (lv_at hl 0 rfl) ?_
                      refine z_ishl1 C (to_3n) rfl rfl (by omega) dX9_clusterOf_115 ?_
                      refine z_ior C ((2 ^ si_1)) ((2 ^ to_3n)) rfl rfl dX9_clusterOf_116 ?_
                      refine z_ior C (s1) (((2 ^ si_1) ||| (2 ^ to_3n))) rfl rfl dX9_clusterOf_117 ?_
                      refine lv_istore_n (lv' := [(2, .int (zI (((s1 ||| ((2 ^ si_1) ||| (2 ^ to_3n))) : Nat) : Int))), (6, .int (zI ((to_3n : Nat) : Int))), (5, .int (zI ((si_1 : Nat) : Int))), (0, .ref (a)), (1, .int (zI ((k : Nat) : Int))), (3, .int (zI ((set : Nat) : Int))), (4, .int (zI ((j : Nat) : Int)))]) hx hb dX9_clusterOf_118 rfl hl (by decide) rfl (fun ls hl => ?_)
                      refine lv_iinc (v := zI ((j + 1 : Nat) : Int)) (lv' := [(4, .int (zI ((j + 1 : Nat) : Int))), (2, .int (zI (((s1 ||| ((2 ^ si_1) ||| (2 ^ to_3n))) : Nat) : Int))), (6, .int (zI ((to_3n : Nat) : Int))), (5, .int (zI ((si_1 : Nat) : Int))), (0, .ref (a)), (1, .int (zI ((k : Nat) : Int))), (3, .int (zI ((set : Nat) : Int)))]) hx hb dX9_clusterOf_119 hl (k := 6) rfl (zI_inc (by omega)) (by decide) rfl (fun ls hl => ?_)
                      refine lv_goto (tgt := 16) hx hb dX9_clusterOf_122 (by decide) ?_
                      exact ih16 (j + 1) ((s1 ||| ((2 ^ si_1) ||| (2 ^ to_3n)))) (by first | with_reducible assumption | omega | with_reducible rfl) (by have e9 := e_to_3; rw [e_si_1] at e9; have ha : decide (j % 2 = 1) = false := decide_eq_false (by omega); simp only [mcS]; rw [ha, ← hs, ← e_si_1]; rw [← e_si_1] at e9; first | exact (mcT_neg e9 c_56).symm | exact (mcT_ne e9 c_83).symm | exact (mcT_in e9 c_83 (Or.inl c_95)).symm | exact (mcT_in e9 c_83 (Or.inr c_104)).symm | exact (mcT_out e9 c_95 c_104).symm) (by first | omega | exact Nat.or_lt_two_pow (by omega) (Nat.or_lt_two_pow hp1 hp2)) (by omega) ls (lv_sub hl [4, 5, 1, 6, 0] rfl)
                    · refine lv_iload_n hx hb dX9_clusterOf_98 rfl (lv_at hl 4 rfl) ?_
                      refine lv_iload hx hb dX9_clusterOf_99 (lv_at hl 0 rfl) ?_
                      refine z_cS (n := 2) (As := [.int (zI ((s1 : Nat) : Int)), .int (zI ((to_3n : Nat) : Int))]) (rest := []) C (k_X9_has l D dA (s1) (to_3n) (by first | with_reducible assumption | omega | with_reducible rfl) (by first | with_reducible assumption | omega | with_reducible rfl)) (lw_S q2247 q2248 q124 q2249) (by decide +kernel) rfl ⟨Nat.le_of_ble_eq_true rfl, Nat.le_of_ble_eq_true rfl⟩ hl.1 (hP.sub [] rfl) rfl (Nat.le_of_ble_eq_true rfl) dX9_clusterOf_101 (Nat.zero_le _) (Nat.zero_le _) ?_
                      refine z_if_eqB (tgt := 119) C dX9_clusterOf_104 (by decide) (fun c_104 => ?_) (fun c_104 => ?_)
                      · refine lv_iinc (v := zI ((j + 1 : Nat) : Int)) (lv' := [(4, .int (zI ((j + 1 : Nat) : Int))), (6, .int (zI ((to_3n : Nat) : Int))), (5, .int (zI ((si_1 : Nat) : Int))), (0, .ref (a)), (1, .int (zI ((k : Nat) : Int))), (2, .int (zI ((s1 : Nat) : Int))), (3, .int (zI ((set : Nat) : Int)))]) hx hb dX9_clusterOf_119 hl (k := 6) rfl (zI_inc (by omega)) (by decide) rfl (fun ls hl => ?_)
                        refine lv_goto (tgt := 16) hx hb dX9_clusterOf_122 (by decide) ?_
                        exact ih16 (j + 1) (s1) (by first | with_reducible assumption | omega | with_reducible rfl) (by have e9 := e_to_3; rw [e_si_1] at e9; have ha : decide (j % 2 = 1) = false := decide_eq_false (by omega); simp only [mcS]; rw [ha, ← hs, ← e_si_1]; rw [← e_si_1] at e9; first | exact (mcT_neg e9 c_56).symm | exact (mcT_ne e9 c_83).symm | exact (mcT_in e9 c_83 (Or.inl c_95)).symm | exact (mcT_in e9 c_83 (Or.inr c_104)).symm | exact (mcT_out e9 c_95 c_104).symm) (by first | omega | exact Nat.or_lt_two_pow (by omega) (Nat.or_lt_two_pow hp1 hp2)) (by omega) ls (lv_sub hl [3, 4, 5, 6, 0] rfl)
                      · refine lv_iload_n hx hb dX9_clusterOf_107 rfl (lv_at hl 4 rfl) ?_
                        refine z_iconst C dX9_clusterOf_108 ?_
                        have hp1 : 2 ^ si_1 < 2 ^ 16 := Nat.pow_lt_pow_right (by decide) (by omega)
                        have hp2 : 2 ^ to_3n < 2 ^ 16 := Nat.pow_lt_pow_right (by decide) (by omega)
                        refine lv_iload hx hb dX9_clusterOf_109 (lv_at hl 1 rfl) ?_
                        refine z_ishl1 C (si_1) rfl rfl (by omega) dX9_clusterOf_111 ?_
                        refine z_iconst C dX9_clusterOf_112 ?_
                        refine lv_iload hx hb dX9_clusterOf_113 (lv_at hl 0 rfl) ?_
                        refine z_ishl1 C (to_3n) rfl rfl (by omega) dX9_clusterOf_115 ?_
                        refine z_ior C ((2 ^ si_1)) ((2 ^ to_3n)) rfl rfl dX9_clusterOf_116 ?_
                        refine z_ior C (s1) (((2 ^ si_1) ||| (2 ^ to_3n))) rfl rfl dX9_clusterOf_117 ?_
                        refine lv_istore_n (lv' := [(2, .int (zI (((s1 ||| ((2 ^ si_1) ||| (2 ^ to_3n))) : Nat) : Int))), (6, .int (zI ((to_3n : Nat) : Int))), (5, .int (zI ((si_1 : Nat) : Int))), (0, .ref (a)), (1, .int (zI ((k : Nat) : Int))), (3, .int (zI ((set : Nat) : Int))), (4, .int (zI ((j : Nat) : Int)))]) hx hb dX9_clusterOf_118 rfl hl (by decide) rfl (fun ls hl => ?_)
                        refine lv_iinc (v := zI ((j + 1 : Nat) : Int)) (lv' := [(4, .int (zI ((j + 1 : Nat) : Int))), (2, .int (zI (((s1 ||| ((2 ^ si_1) ||| (2 ^ to_3n))) : Nat) : Int))), (6, .int (zI ((to_3n : Nat) : Int))), (5, .int (zI ((si_1 : Nat) : Int))), (0, .ref (a)), (1, .int (zI ((k : Nat) : Int))), (3, .int (zI ((set : Nat) : Int)))]) hx hb dX9_clusterOf_119 hl (k := 6) rfl (zI_inc (by omega)) (by decide) rfl (fun ls hl => ?_)
                        refine lv_goto (tgt := 16) hx hb dX9_clusterOf_122 (by decide) ?_
                        exact ih16 (j + 1) ((s1 ||| ((2 ^ si_1) ||| (2 ^ to_3n)))) (by first | with_reducible assumption | omega | with_reducible rfl) (by have e9 := e_to_3; rw [e_si_1] at e9; have ha : decide (j % 2 = 1) = false := decide_eq_false (by omega); simp only [mcS]; rw [ha, ← hs, ← e_si_1]; rw [← e_si_1] at e9; first | exact (mcT_neg e9 c_56).symm | exact (mcT_ne e9 c_83).symm | exact (mcT_in e9 c_83 (Or.inl c_95)).symm | exact (mcT_in e9 c_83 (Or.inr c_104)).symm | exact (mcT_out e9 c_95 c_104).symm) (by first | omega | exact Nat.or_lt_two_pow (by omega) (Nat.or_lt_two_pow hp1 hp2)) (by omega) ls (lv_sub hl [4, 5, 1, 6, 0] rfl)
                  · refine lv_goto (tgt := 119) hx hb dX9_clusterOf_86 (by decide) ?_
                    refine lv_iinc (v := zI ((j + 1 : Nat) : Int)) (lv' := [(4, .int (zI ((j + 1 : Nat) : Int))), (6, .int (zI ((to_3n : Nat) : Int))), (5, .int (zI ((si_1 : Nat) : Int))), (0, .ref (a)), (1, .int (zI ((k : Nat) : Int))), (2, .int (zI ((s1 : Nat) : Int))), (3, .int (zI ((set : Nat) : Int)))]) hx hb dX9_clusterOf_119 hl (k := 6) rfl (zI_inc (by omega)) (by decide) rfl (fun ls hl => ?_)
                    refine lv_goto (tgt := 16) hx hb dX9_clusterOf_122 (by decide) ?_
                    exact ih16 (j + 1) (s1) (by first | with_reducible assumption | omega | with_reducible rfl) (by have e9 := e_to_3; rw [e_si_1] at e9; have ha : decide (j % 2 = 1) = false := decide_eq_false (by omega); simp only [mcS]; rw [ha, ← hs, ← e_si_1]; rw [← e_si_1] at e9; first | exact (mcT_neg e9 c_56).symm | exact (mcT_ne e9 c_83).symm | exact (mcT_in e9 c_83 (Or.inl c_95)).symm | exact (mcT_in e9 c_83 (Or.inr c_104)).symm | exact (mcT_out e9 c_95 c_104).symm) (by first | omega | exact Nat.or_lt_two_pow (by omega) (Nat.or_lt_two_pow hp1 hp2)) (by omega) ls (lv_sub hl [3, 4, 5, 6, 0] rfl)
              · refine z_iconst C dX9_clusterOf_44 ?_
                refine lv_goto (tgt := 49) hx hb dX9_clusterOf_45 (by decide) ?_
                refine z_cV (n := 2) (As := [.int (zI ((si_1 : Nat) : Int)), .int (zI 1)]) (rest := []) C hP (k_X9_tieTo l D dA (a) (v0) (v1) (v2) (v3) (v4) (v5) (v6) (v7) (v8) (v9) (v10) (v11) (v12) (v13) (v14) (v15) (v16) (v22) (v23) (v24) (v25) (v26) (v27) (v28) (v29) (v30) (v31) (v32) (v33) (v34) (v35) (v36) (v37) (v38) (v39) (v40) (v41) (v42) (v43) (v44) (w) (le) (ra) (rl) (qn) (si_1) (true) (by first | with_reducible assumption | omega | with_reducible rfl) (by first | with_reducible assumption | omega | with_reducible rfl)) (lw_V q2128 q2130 qs82 q124 q2131) (by decide +kernel) rfl ⟨Nat.le_of_ble_eq_true rfl, Nat.le_of_ble_eq_true rfl⟩ hl.1 (hP.sub [0] rfl) 0 rfl rfl rfl (Nat.le_of_ble_eq_true rfl) dX9_clusterOf_49 (Nat.zero_le _) (Nat.zero_le _) ?_
                refine z_nm (fun to_4 e_to_4 => ?_)
                have o_to_4 := oth_lt (rgOf ra rl) true hk2
                rw [← e_to_4] at o_to_4
                refine lv_istore (lv' := [(6, .int (zI (to_4))), (5, .int (zI ((si_1 : Nat) : Int))), (0, .ref (a)), (1, .int (zI ((k : Nat) : Int))), (2, .int (zI ((s1 : Nat) : Int))), (3, .int (zI ((set : Nat) : Int))), (4, .int (zI ((j : Nat) : Int)))]) hx hb dX9_clusterOf_52 hl (by decide) rfl (fun ls hl => ?_)
                refine lv_iload hx hb dX9_clusterOf_54 (lv_at hl 0 rfl) ?_
                refine z_if_lt (tgt := 119) C ⟨by omega, by omega⟩ dX9_clusterOf_56 (by decide) (fun c_56 => ?_) (fun c_56 => ?_)
                · refine lv_iinc (v := zI ((j + 1 : Nat) : Int)) (lv' := [(4, .int (zI ((j + 1 : Nat) : Int))), (6, .int (zI (to_4))), (5, .int (zI ((si_1 : Nat) : Int))), (0, .ref (a)), (1, .int (zI ((k : Nat) : Int))), (2, .int (zI ((s1 : Nat) : Int))), (3, .int (zI ((set : Nat) : Int)))]) hx hb dX9_clusterOf_119 hl (k := 6) rfl (zI_inc (by omega)) (by decide) rfl (fun ls hl => ?_)
                  refine lv_goto (tgt := 16) hx hb dX9_clusterOf_122 (by decide) ?_
                  exact ih16 (j + 1) (s1) (by first | with_reducible assumption | omega | with_reducible rfl) (by have e9 := e_to_4; rw [e_si_1] at e9; have ha : decide (j % 2 = 1) = true := decide_eq_true (by omega); simp only [mcS]; rw [ha, ← hs, ← e_si_1]; rw [← e_si_1] at e9; first | exact (mcT_neg e9 c_56).symm | exact (mcT_ne e9 c_83).symm | exact (mcT_in e9 c_83 (Or.inl c_95)).symm | exact (mcT_in e9 c_83 (Or.inr c_104)).symm | exact (mcT_out e9 c_95 c_104).symm) (by first | omega | exact Nat.or_lt_two_pow (by omega) (Nat.or_lt_two_pow hp1 hp2)) (by omega) ls (lv_sub hl [3, 4, 5, 6, 0] rfl)
                · obtain ⟨to_4n, rfl⟩ : ∃ q : Nat, to_4 = (q : Int) := ⟨to_4.toNat, by omega⟩
                  refine lv_aload_n hx hb dX9_clusterOf_59 rfl (lv_at hl 2 rfl) ?_
                  refine z_get C hP 0 rfl rfl in_X9 21 (by decide) q1905 rfl dX9_clusterOf_60 ?_
                  refine z_bipush C dX9_clusterOf_63 rfl ?_
                  refine z_iald C hP 1 rfl (64) rfl (by omega) (by decide) dX9_clusterOf_65 ?_
                  rw [h64]
                  refine lv_iload hx hb dX9_clusterOf_66 (lv_at hl 1 rfl) ?_
                  refine z_cS (n := 2) (As := [.int (zI ((st : Nat) : Int)), .int (zI ((si_1 : Nat) : Int))]) (rest := []) C (k_X9_has l D dA (st) (si_1) (by first | with_reducible assumption | omega | with_reducible rfl) (by first | with_reducible assumption | omega | with_reducible rfl)) (lw_S q2247 q2248 q124 q2249) (by decide +kernel) rfl ⟨Nat.le_of_ble_eq_true rfl, Nat.le_of_ble_eq_true rfl⟩ hl.1 (hP.sub [] rfl) rfl (Nat.le_of_ble_eq_true rfl) dX9_clusterOf_68 (Nat.zero_le _) (Nat.zero_le _) ?_
                  refine lv_aload_n hx hb dX9_clusterOf_71 rfl (lv_at hl 2 rfl) ?_
                  refine z_get C hP 0 rfl rfl in_X9 21 (by decide) q1905 rfl dX9_clusterOf_72 ?_
                  refine z_bipush C dX9_clusterOf_75 rfl ?_
                  refine z_iald C hP 1 rfl (64) rfl (by omega) (by decide) dX9_clusterOf_77 ?_
                  rw [h64]
                  refine lv_iload hx hb dX9_clusterOf_78 (lv_at hl 0 rfl) ?_
                  refine z_cS (n := 2) (As := [.int (zI ((st : Nat) : Int)), .int (zI ((to_4n : Nat) : Int))]) (rest := [.int (zB (st.testBit si_1))]) C (k_X9_has l D dA (st) (to_4n) (by first | with_reducible assumption | omega | with_reducible rfl) (by first | with_reducible assumption | omega | with_reducible rfl)) (lw_S q2247 q2248 q124 q2249) (by decide +kernel) rfl ⟨Nat.le_of_ble_eq_true rfl, Nat.le_of_ble_eq_true rfl⟩ hl.1 (hP.sub [] rfl) rfl (Nat.le_of_ble_eq_true rfl) dX9_clusterOf_80 (Nat.zero_le _) (Nat.zero_le _) ?_
                  refine z_icmp_eqB (tgt := 89) C dX9_clusterOf_83 (by decide) (fun c_83 => ?_) (fun c_83 => ?_)
                  · refine lv_iload_n hx hb dX9_clusterOf_89 rfl (lv_at hl 4 rfl) ?_
                    refine lv_iload hx hb dX9_clusterOf_90 (lv_at hl 1 rfl) ?_
                    refine z_cS (n := 2) (As := [.int (zI ((s1 : Nat) : Int)), .int (zI ((si_1 : Nat) : Int))]) (rest := []) C (k_X9_has l D dA (s1) (si_1) (by first | with_reducible assumption | omega | with_reducible rfl) (by first | with_reducible assumption | omega | with_reducible rfl)) (lw_S q2247 q2248 q124 q2249) (by decide +kernel) rfl ⟨Nat.le_of_ble_eq_true rfl, Nat.le_of_ble_eq_true rfl⟩ hl.1 (hP.sub [] rfl) rfl (Nat.le_of_ble_eq_true rfl) dX9_clusterOf_92 (Nat.zero_le _) (Nat.zero_le _) ?_
                    refine z_if_neB (tgt := 107) C dX9_clusterOf_95 (by decide) (fun c_95 => ?_) (fun c_95 => ?_)
                    · refine lv_iload_n hx hb dX9_clusterOf_107 rfl (lv_at hl 4 rfl) ?_
                      refine z_iconst C dX9_clusterOf_108 ?_
                      have hp1 : 2 ^ si_1 < 2 ^ 16 := Nat.pow_lt_pow_right (by decide) (by omega)
                      have hp2 : 2 ^ to_4n < 2 ^ 16 := Nat.pow_lt_pow_right (by decide) (by omega)
                      refine lv_iload hx hb dX9_clusterOf_109 (lv_at hl 1 rfl) ?_
                      refine z_ishl1 C (si_1) rfl rfl (by omega) dX9_clusterOf_111 ?_
                      refine z_iconst C dX9_clusterOf_112 ?_
                      refine lv_iload hx hb dX9_clusterOf_113 (lv_at hl 0 rfl) ?_
                      refine z_ishl1 C (to_4n) rfl rfl (by omega) dX9_clusterOf_115 ?_
                      refine z_ior C ((2 ^ si_1)) ((2 ^ to_4n)) rfl rfl dX9_clusterOf_116 ?_
                      refine z_ior C (s1) (((2 ^ si_1) ||| (2 ^ to_4n))) rfl rfl dX9_clusterOf_117 ?_
                      refine lv_istore_n (lv' := [(2, .int (zI (((s1 ||| ((2 ^ si_1) ||| (2 ^ to_4n))) : Nat) : Int))), (6, .int (zI ((to_4n : Nat) : Int))), (5, .int (zI ((si_1 : Nat) : Int))), (0, .ref (a)), (1, .int (zI ((k : Nat) : Int))), (3, .int (zI ((set : Nat) : Int))), (4, .int (zI ((j : Nat) : Int)))]) hx hb dX9_clusterOf_118 rfl hl (by decide) rfl (fun ls hl => ?_)
                      refine lv_iinc (v := zI ((j + 1 : Nat) : Int)) (lv' := [(4, .int (zI ((j + 1 : Nat) : Int))), (2, .int (zI (((s1 ||| ((2 ^ si_1) ||| (2 ^ to_4n))) : Nat) : Int))), (6, .int (zI ((to_4n : Nat) : Int))), (5, .int (zI ((si_1 : Nat) : Int))), (0, .ref (a)), (1, .int (zI ((k : Nat) : Int))), (3, .int (zI ((set : Nat) : Int)))]) hx hb dX9_clusterOf_119 hl (k := 6) rfl (zI_inc (by omega)) (by decide) rfl (fun ls hl => ?_)
                      refine lv_goto (tgt := 16) hx hb dX9_clusterOf_122 (by decide) ?_
                      exact ih16 (j + 1) ((s1 ||| ((2 ^ si_1) ||| (2 ^ to_4n)))) (by first | with_reducible assumption | omega | with_reducible rfl) (by have e9 := e_to_4; rw [e_si_1] at e9; have ha : decide (j % 2 = 1) = true := decide_eq_true (by omega); simp only [mcS]; rw [ha, ← hs, ← e_si_1]; rw [← e_si_1] at e9; first | exact (mcT_neg e9 c_56).symm | exact (mcT_ne e9 c_83).symm | exact (mcT_in e9 c_83 (Or.inl c_95)).symm | exact (mcT_in e9 c_83 (Or.inr c_104)).symm | exact (mcT_out e9 c_95 c_104).symm) (by first | omega | exact Nat.or_lt_two_pow (by omega) (Nat.or_lt_two_pow hp1 hp2)) (by omega) ls (lv_sub hl [4, 5, 1, 6, 0] rfl)
                    · refine lv_iload_n hx hb dX9_clusterOf_98 rfl (lv_at hl 4 rfl) ?_
                      refine lv_iload hx hb dX9_clusterOf_99 (lv_at hl 0 rfl) ?_
                      refine z_cS (n := 2) (As := [.int (zI ((s1 : Nat) : Int)), .int (zI ((to_4n : Nat) : Int))]) (rest := []) C (k_X9_has l D dA (s1) (to_4n) (by first | with_reducible assumption | omega | with_reducible rfl) (by first | with_reducible assumption | omega | with_reducible rfl)) (lw_S q2247 q2248 q124 q2249) (by decide +kernel) rfl ⟨Nat.le_of_ble_eq_true rfl, Nat.le_of_ble_eq_true rfl⟩ hl.1 (hP.sub [] rfl) rfl (Nat.le_of_ble_eq_true rfl) dX9_clusterOf_101 (Nat.zero_le _) (Nat.zero_le _) ?_
                      refine z_if_eqB (tgt := 119) C dX9_clusterOf_104 (by decide) (fun c_104 => ?_) (fun c_104 => ?_)
                      · refine lv_iinc (v := zI ((j + 1 : Nat) : Int)) (lv' := [(4, .int (zI ((j + 1 : Nat) : Int))), (6, .int (zI ((to_4n : Nat) : Int))), (5, .int (zI ((si_1 : Nat) : Int))), (0, .ref (a)), (1, .int (zI ((k : Nat) : Int))), (2, .int (zI ((s1 : Nat) : Int))), (3, .int (zI ((set : Nat) : Int)))]) hx hb dX9_clusterOf_119 hl (k := 6) rfl (zI_inc (by omega)) (by decide) rfl (fun ls hl => ?_)
                        refine lv_goto (tgt := 16) hx hb dX9_clusterOf_122 (by decide) ?_
                        exact ih16 (j + 1) (s1) (by first | with_reducible assumption | omega | with_reducible rfl) (by have e9 := e_to_4; rw [e_si_1] at e9; have ha : decide (j % 2 = 1) = true := decide_eq_true (by omega); simp only [mcS]; rw [ha, ← hs, ← e_si_1]; rw [← e_si_1] at e9; first | exact (mcT_neg e9 c_56).symm | exact (mcT_ne e9 c_83).symm | exact (mcT_in e9 c_83 (Or.inl c_95)).symm | exact (mcT_in e9 c_83 (Or.inr c_104)).symm | exact (mcT_out e9 c_95 c_104).symm) (by first | omega | exact Nat.or_lt_two_pow (by omega) (Nat.or_lt_two_pow hp1 hp2)) (by omega) ls (lv_sub hl [3, 4, 5, 6, 0] rfl)
                      · refine lv_iload_n hx hb dX9_clusterOf_107 rfl (lv_at hl 4 rfl) ?_
                        refine z_iconst C dX9_clusterOf_108 ?_
                        have hp1 : 2 ^ si_1 < 2 ^ 16 := Nat.pow_lt_pow_right (by decide) (by omega)
                        have hp2 : 2 ^ to_4n < 2 ^ 16 := Nat.pow_lt_pow_right (by decide) (by omega)
                        refine lv_iload hx hb dX9_clusterOf_109 (lv_at hl 1 rfl) ?_
                        refine z_ishl1 C (si_1) rfl rfl (by omega) dX9_clusterOf_111 ?_
                        refine z_iconst C dX9_clusterOf_112 ?_
                        refine lv_iload hx hb dX9_clusterOf_113 (lv_at hl 0 rfl) ?_
                        refine z_ishl1 C (to_4n) rfl rfl (by omega) dX9_clusterOf_115 ?_
                        refine z_ior C ((2 ^ si_1)) ((2 ^ to_4n)) rfl rfl dX9_clusterOf_116 ?_
                        refine z_ior C (s1) (((2 ^ si_1) ||| (2 ^ to_4n))) rfl rfl dX9_clusterOf_117 ?_
                        refine lv_istore_n (lv' := [(2, .int (zI (((s1 ||| ((2 ^ si_1) ||| (2 ^ to_4n))) : Nat) : Int))), (6, .int (zI ((to_4n : Nat) : Int))), (5, .int (zI ((si_1 : Nat) : Int))), (0, .ref (a)), (1, .int (zI ((k : Nat) : Int))), (3, .int (zI ((set : Nat) : Int))), (4, .int (zI ((j : Nat) : Int)))]) hx hb dX9_clusterOf_118 rfl hl (by decide) rfl (fun ls hl => ?_)
                        refine lv_iinc (v := zI ((j + 1 : Nat) : Int)) (lv' := [(4, .int (zI ((j + 1 : Nat) : Int))), (2, .int (zI (((s1 ||| ((2 ^ si_1) ||| (2 ^ to_4n))) : Nat) : Int))), (6, .int (zI ((to_4n : Nat) : Int))), (5, .int (zI ((si_1 : Nat) : Int))), (0, .ref (a)), (1, .int (zI ((k : Nat) : Int))), (3, .int (zI ((set : Nat) : Int)))]) hx hb dX9_clusterOf_119 hl (k := 6) rfl (zI_inc (by omega)) (by decide) rfl (fun ls hl => ?_)
                        refine lv_goto (tgt := 16) hx hb dX9_clusterOf_122 (by decide) ?_
                        exact ih16 (j + 1) ((s1 ||| ((2 ^ si_1) ||| (2 ^ to_4n)))) (by first | with_reducible assumption | omega | with_reducible rfl) (by have e9 := e_to_4; rw [e_si_1] at e9; have ha : decide (j % 2 = 1) = true := decide_eq_true (by omega); simp only [mcS]; rw [ha, ← hs, ← e_si_1]; rw [← e_si_1] at e9; first | exact (mcT_neg e9 c_56).symm | exact (mcT_ne e9 c_83).symm | exact (mcT_in e9 c_83 (Or.inl c_95)).symm | exact (mcT_in e9 c_83 (Or.inr c_104)).symm | exact (mcT_out e9 c_95 c_104).symm) (by first | omega | exact Nat.or_lt_two_pow (by omega) (Nat.or_lt_two_pow hp1 hp2)) (by omega) ls (lv_sub hl [4, 5, 1, 6, 0] rfl)
                  · refine lv_goto (tgt := 119) hx hb dX9_clusterOf_86 (by decide) ?_
                    refine lv_iinc (v := zI ((j + 1 : Nat) : Int)) (lv' := [(4, .int (zI ((j + 1 : Nat) : Int))), (6, .int (zI ((to_4n : Nat) : Int))), (5, .int (zI ((si_1 : Nat) : Int))), (0, .ref (a)), (1, .int (zI ((k : Nat) : Int))), (2, .int (zI ((s1 : Nat) : Int))), (3, .int (zI ((set : Nat) : Int)))]) hx hb dX9_clusterOf_119 hl (k := 6) rfl (zI_inc (by omega)) (by decide) rfl (fun ls hl => ?_)
                    refine lv_goto (tgt := 16) hx hb dX9_clusterOf_122 (by decide) ?_
                    exact ih16 (j + 1) (s1) (by first | with_reducible assumption | omega | with_reducible rfl) (by have e9 := e_to_4; rw [e_si_1] at e9; have ha : decide (j % 2 = 1) = true := decide_eq_true (by omega); simp only [mcS]; rw [ha, ← hs, ← e_si_1]; rw [← e_si_1] at e9; first | exact (mcT_neg e9 c_56).symm | exact (mcT_ne e9 c_83).symm | exact (mcT_in e9 c_83 (Or.inl c_95)).symm | exact (mcT_in e9 c_83 (Or.inr c_104)).symm | exact (mcT_out e9 c_95 c_104).symm) (by first | omega | exact Nat.or_lt_two_pow (by omega) (Nat.or_lt_two_pow hp1 hp2)) (by omega) ls (lv_sub hl [3, 4, 5, 6, 0] rfl)
        exact L16 ((2 * (w * le) - 0) + 1) (0) (set) (by first | with_reducible assumption | omega | with_reducible rfl) rfl (by first | with_reducible assumption | omega | with_reducible rfl) (by omega) ls (lv_sub hl [2, 3, 4, 1, 0] rfl)
  exact L6 ((65536) + 1) (65536) ((2 ^ k)) (0) rfl hkk (Nat.zero_le _) (by first | with_reducible assumption | omega | with_reducible rfl) (by omega) ls (lv_sub hl [2, 3, 1, 0] rfl)
set_option maxHeartbeats 600000 in
set_option maxRecDepth 100000 in
theorem k_X9_cluster (l : Launch) (D : va_G) (dA : Nat → ClassId) (a : Nat) (v0 v1 v2 v3 v4 v5 v6 v7 v8 v9 v10 v11 v12 v13 v14 v15 v16 v22 v23 v24 v25 v26 v27 v28 v29 v30 v31 v32 v33 v34 v35 v36 v37 v38 v39 v40 v41 v42 v43 v44 : Value) (w le : Nat) (ra rl : Bool) (qn : Nat) (f : Nat → Int) (st : Nat) (k : Int) (hwl : w * le ≤ 16) (hk : zR k) (hst : st < 2147483648) (h64 : f 64 = (st : Int)) : zM l yX9_cluster cX9_cluster 2 (some .int) (zRm 3 74) D dA [.ref (a), .int (zI (k))] [(a, .inr (9, [v0, v1, v2, v3, v4, v5, v6, v7, v8, v9, v10, v11, v12, v13, v14, v15, v16, .int (zI ((w : Nat) : Int)), .int (zI ((le : Nat) : Int)), .int (zB (ra)), .int (zB (rl)), .ref (qn), v22, v23, v24, v25, v26, v27, v28, v29, v30, v31, v32, v33, v34, v35, v36, v37, v38, v39, v40, v41, v42, v43, v44])), (qn, .inl (dA 3, 66, .inl (fun j => zI (f j))))] (some (.int (zI (if 0 ≤ k ∧ k < ((w * le : Nat) : Int) then ((mcl w le (rgOf ra rl) st k.toNat : Nat) : Int) else -1)))) := by
  refine zM.of (by decide +kernel) rfl ?_
  intro pp ee ss mm args below meth cd Q C hr hlk hQ hP ls hl
  have hx := C.1.1
  have hb := C.1.2.1
  have hl : lv_has ls 2 [(0, .ref (a)), (1, .int (zI (k)))] := hl
  refine lv_aload_n hx hb dX9_cluster_0 rfl (lv_at hl 0 rfl) ?_
  refine lv_iload_n hx hb dX9_cluster_1 rfl (lv_at hl 1 rfl) ?_
  refine z_cV (n := 1) (As := [.int (zI (k))]) (rest := []) C hP (k_X9_isSite l D dA (a) (v0) (v1) (v2) (v3) (v4) (v5) (v6) (v7) (v8) (v9) (v10) (v11) (v12) (v13) (v14) (v15) (v16) (v22) (v23) (v24) (v25) (v26) (v27) (v28) (v29) (v30) (v31) (v32) (v33) (v34) (v35) (v36) (v37) (v38) (v39) (v40) (v41) (v42) (v43) (v44) (w) (le) (ra) (rl) (qn) ((k)) (by first | with_reducible assumption | omega | with_reducible rfl) (by first | with_reducible assumption | omega | with_reducible rfl)) (lw_V q2124 q2126 qs81 q124 q2127) (by decide +kernel) rfl ⟨Nat.le_of_ble_eq_true rfl, Nat.le_of_ble_eq_true rfl⟩ hl.1 (hP.sub [0] rfl) 0 rfl rfl rfl (Nat.le_of_ble_eq_true rfl) dX9_cluster_2 (Nat.zero_le _) (Nat.zero_le _) ?_
  refine z_if_eqB (tgt := 16) C dX9_cluster_5 (by decide) (fun c_5 => ?_) (fun c_5 => ?_)
  · have c_5 := of_decide_eq_false c_5
    refine z_iconst C dX9_cluster_16 ?_
    exact z_iret C hlk hr hQ (by first | (rw [if_neg c_5]; done) | (rw [if_pos (by omega)]; simp)) dX9_cluster_17
  · have c_5 := of_decide_eq_true c_5
    obtain ⟨kn, rfl⟩ : ∃ q : Nat, k = (q : Int) := ⟨k.toNat, by omega⟩
    refine lv_aload_n hx hb dX9_cluster_8 rfl (lv_at hl 0 rfl) ?_
    refine lv_iload_n hx hb dX9_cluster_9 rfl (lv_at hl 1 rfl) ?_
    refine z_cV (n := 1) (As := [.int (zI ((kn : Nat) : Int))]) (rest := []) C hP (k_X9_clusterOf l D dA (a) (v0) (v1) (v2) (v3) (v4) (v5) (v6) (v7) (v8) (v9) (v10) (v11) (v12) (v13) (v14) (v15) (v16) (v22) (v23) (v24) (v25) (v26) (v27) (v28) (v29) (v30) (v31) (v32) (v33) (v34) (v35) (v36) (v37) (v38) (v39) (v40) (v41) (v42) (v43) (v44) (w) (le) (ra) (rl) (qn) (f) (st) (kn) (by first | with_reducible assumption | omega | with_reducible rfl) (by first | with_reducible assumption | omega | with_reducible rfl) (by first | with_reducible assumption | omega | with_reducible rfl) (by first | with_reducible assumption | omega | with_reducible rfl)) (lw_V q2344 q2346 qs99 q124 q2347) (by decide +kernel) rfl ⟨Nat.le_of_ble_eq_true rfl, Nat.le_of_ble_eq_true rfl⟩ hl.1 (hP.sub [0, 1] rfl) 0 rfl rfl rfl (Nat.le_of_ble_eq_true rfl) dX9_cluster_10 (Nat.zero_le _) (Nat.zero_le _) ?_
    refine lv_goto (tgt := 17) hx hb dX9_cluster_13 (by decide) ?_
    exact z_iret C hlk hr hQ (by first | (rw [if_neg c_5]; done) | (rw [if_pos (by omega)]; simp)) dX9_cluster_17
