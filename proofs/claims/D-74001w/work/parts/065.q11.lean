set_option maxHeartbeats 600000 in
set_option maxRecDepth 100000 in
theorem k_X9_rows (l : Launch) (D : va_G) (dA : Nat → ClassId) (a : Nat) (v0 v1 v2 v3 v4 v5 v6 v7 v8 v9 v10 v11 v12 v13 v14 v15 v16 v22 v23 v24 v25 v26 v27 v28 v29 v30 v31 v32 v33 v34 v35 v36 v37 v38 v39 v40 v41 v42 v43 v44 : Value) (w le : Nat) (ra rl : Bool) (qn : Nat) (f : Nat → Int) (k ro en : Int) (hwl : w * le ≤ 16) (hle : le ≤ 16) (hw : w ≤ 4) (h1 : zR k) (h2 : zR ro) (h3 : zR en) (b3 : ∀ j, j < 48 → -3 ≤ f j ∧ f j ≤ 3) (bo : ∀ j, -1000000 ≤ f j ∧ f j ≤ 1000000) : zM l yX9_rows cX9_rows 8 (some .int) (zRm 3 75) D dA [.ref (a), .int (zI (k)), .int (zI (ro)), .int (zI (en))] [(a, .inr (9, [v0, v1, v2, v3, v4, v5, v6, v7, v8, v9, v10, v11, v12, v13, v14, v15, v16, .int (zI ((w : Nat) : Int)), .int (zI ((le : Nat) : Int)), .int (zB (ra)), .int (zB (rl)), .ref (qn), v22, v23, v24, v25, v26, v27, v28, v29, v30, v31, v32, v33, v34, v35, v36, v37, v38, v39, v40, v41, v42, v43, v44])), (qn, .inl (dA 3, 66, .inl (fun jz => zI (f jz))))] (some (.int (zI ((if (0 ≤ k ∧ k < (le : Int)) ∧ (0 ≤ ro ∧ ro < ((2 ^ w : Nat) : Int)) then ((cntN (fun lo => lwN f (lo ||| ro.toNat * 2 ^ (w * k.toNat)) (w * k.toNat + w) && decide (enN w le (rgOf ra rl) (k.toNat + 1) f (lo ||| ro.toNat * 2 ^ (w * k.toNat)) (w * (k.toNat + 1)) = en)) (2 ^ (w * k.toNat)) : Nat) : Int) else -1))))) := by
  refine zM.of (by decide +kernel) rfl ?_
  intro pp ee ss mm args below meth cd Q C hr hlk hQ hP ls hl
  have hx := C.1.1
  have hb := C.1.2.1
  have hl : lv_has ls 8 [(0, .ref (a)), (1, .int (zI (k))), (2, .int (zI (ro))), (3, .int (zI (en)))] := hl
  have hw2 : 2 ^ w ≤ 2 ^ 4 := Nat.pow_le_pow_right (by decide) hw
  have hw3 := Nat.two_pow_pos w
  refine lv_iload_n hx hb dX9_rows_0 rfl (lv_at hl 1 rfl) ?_
  refine z_iconst C dX9_rows_1 ?_
  refine lv_aload_n hx hb dX9_rows_2 rfl (lv_at hl 0 rfl) ?_
  refine z_get C hP 0 rfl rfl in_X9 18 (by decide) q1902 rfl dX9_rows_3 ?_
  refine z_iconst C dX9_rows_6 ?_
  refine z_isub C dX9_rows_7 ?_
  refine z_cS (n := 3) (As := [.int (zI (k)), .int (zI 0), .int (zI (((le : Nat) : Int) - 1))]) (rest := []) C (k_X9_in l D dA ((k)) (0) ((((le : Nat) : Int) - 1)) (by first | with_reducible assumption | omega | with_reducible rfl) (by first | with_reducible assumption | omega | with_reducible rfl) (by first | with_reducible assumption | omega | with_reducible rfl)) (lw_S q2090 q2091 q124 q2092) (by decide +kernel) rfl ⟨Nat.le_of_ble_eq_true rfl, Nat.le_of_ble_eq_true rfl⟩ hl.1 (hP.sub [] rfl) rfl (Nat.le_of_ble_eq_true rfl) dX9_rows_8 (Nat.zero_le _) (Nat.zero_le _) ?_
  refine z_if_eqB (tgt := 30) C dX9_rows_11 (by decide) (fun c_11 => ?_) (fun c_11 => ?_)
  · have c_11 := of_decide_eq_false c_11
    refine z_iconst C dX9_rows_30 ?_
    exact z_iret C hlk hr hQ (by rw [if_neg]; intro q; omega) dX9_rows_31
  · have c_11 := of_decide_eq_true c_11
    refine lv_iload_n hx hb dX9_rows_14 rfl (lv_at hl 2 rfl) ?_
    refine z_iconst C dX9_rows_15 ?_
    refine z_iconst C dX9_rows_16 ?_
    refine lv_aload_n hx hb dX9_rows_17 rfl (lv_at hl 0 rfl) ?_
    refine z_get C hP 0 rfl rfl in_X9 17 (by decide) q1901 rfl dX9_rows_18 ?_
    refine z_ishl1 C (w) rfl rfl (by omega) dX9_rows_21 ?_
    refine z_iconst C dX9_rows_22 ?_
    refine z_isubN C ((2 ^ w)) (1) rfl rfl (by omega) dX9_rows_23 ?_
    refine z_cS (n := 3) (As := [.int (zI (ro)), .int (zI 0), .int (zI ((((2 ^ w) - 1) : Nat) : Int))]) (rest := []) C (k_X9_in l D dA ((ro)) (0) (((((2 ^ w) - 1) : Nat) : Int)) (by first | with_reducible assumption | omega | with_reducible rfl) (by first | with_reducible assumption | omega | with_reducible rfl) (by first | with_reducible assumption | omega | with_reducible rfl)) (lw_S q2090 q2091 q124 q2092) (by decide +kernel) rfl ⟨Nat.le_of_ble_eq_true rfl, Nat.le_of_ble_eq_true rfl⟩ hl.1 (hP.sub [] rfl) rfl (Nat.le_of_ble_eq_true rfl) dX9_rows_24 (Nat.zero_le _) (Nat.zero_le _) ?_
    refine z_if_neB (tgt := 32) C dX9_rows_27 (by decide) (fun c_27 => ?_) (fun c_27 => ?_)
    · have c_27 := of_decide_eq_true c_27
      obtain ⟨kq, rfl⟩ : ∃ q : Nat, k = (q : Int) := ⟨k.toNat, by omega⟩
      obtain ⟨rq, rfl⟩ : ∃ q : Nat, ro = (q : Int) := ⟨ro.toNat, by omega⟩
      have hk1 := row_le (w := w) (le := le) (r := kq) (by omega)
      have hpw : 2 ^ (w * kq) ≤ 2 ^ 16 := Nat.pow_le_pow_right (by decide) (by omega)
      have hk2 : w * (kq + 1) = w * kq + w := by rw [Nat.mul_add, Nat.mul_one]
      refine z_iconst C dX9_rows_32 ?_
      refine lv_istore (lv' := [(4, .int (zI 0)), (0, .ref (a)), (1, .int (zI ((kq : Nat) : Int))), (2, .int (zI ((rq : Nat) : Int))), (3, .int (zI (en)))]) hx hb dX9_rows_33 hl (by decide) rfl (fun ls hl => ?_)
      refine lv_aload_n hx hb dX9_rows_35 rfl (lv_at hl 1 rfl) ?_
      refine z_get C hP 0 rfl rfl in_X9 17 (by decide) q1901 rfl dX9_rows_36 ?_
      refine lv_iload_n hx hb dX9_rows_39 rfl (lv_at hl 2 rfl) ?_
      refine z_imulN C (w) (kq) rfl rfl dX9_rows_40 ?_
      refine lv_istore (lv' := [(5, .int (zI (((w * kq) : Nat) : Int))), (4, .int (zI 0)), (0, .ref (a)), (1, .int (zI ((kq : Nat) : Int))), (2, .int (zI ((rq : Nat) : Int))), (3, .int (zI (en)))]) hx hb dX9_rows_41 hl (by decide) rfl (fun ls hl => ?_)
      refine z_iconst C dX9_rows_43 ?_
      refine lv_istore (lv' := [(6, .int (zI 0)), (5, .int (zI (((w * kq) : Nat) : Int))), (4, .int (zI 0)), (0, .ref (a)), (1, .int (zI ((kq : Nat) : Int))), (2, .int (zI ((rq : Nat) : Int))), (3, .int (zI (en)))]) hx hb dX9_rows_44 hl (by decide) rfl (fun ls hl => ?_)
      have L46 : ∀ (N : Nat) (lo nn : Nat), (lo ≤ 2 ^ (w * kq)) → (nn = cntN (fun lo => lwN f (lo ||| rq * 2 ^ (w * kq)) (w * kq + w) && decide (enN w le (rgOf ra rl) (kq + 1) f (lo ||| rq * 2 ^ (w * kq)) (w * (kq + 1)) = en)) lo) → (nn ≤ lo) → (2 ^ (w * kq) - lo) < N → ∀ ls : Array Slot, lv_has ls 8 [(0, .ref (a)), (1, .int (zI ((kq : Nat) : Int))), (2, .int (zI ((rq : Nat) : Int))), (3, .int (zI (en))), (4, .int (zI ((nn : Nat) : Int))), (5, .int (zI (((w * kq) : Nat) : Int))), (6, .int (zI ((lo : Nat) : Int)))] → W pp l ee (zRm 3 75) ss mm args below meth cd ss.heap [] 0 0 Q (F0 mm 46 ls []) := by
        intro N
        induction N with
        | zero => intro lo nn _ _ _ hm; exact absurd hm (Nat.not_lt_zero _)
        | succ N ih46 =>
          intro lo nn hlo hs hnl hmz46 ls hl
          refine lv_iload hx hb dX9_rows_46 (lv_at hl 6 rfl) ?_
          refine z_iconst C dX9_rows_48 ?_
          refine lv_iload hx hb dX9_rows_49 (lv_at hl 5 rfl) ?_
          refine z_ishl1 C ((w * kq)) rfl rfl (by omega) dX9_rows_51 ?_
          refine z_icmp_ge (tgt := 109) C ⟨by omega, by omega⟩ ⟨by omega, by omega⟩ dX9_rows_52 (by decide) (fun c_52 => ?_) (fun c_52 => ?_)
          · refine lv_iload hx hb dX9_rows_109 (lv_at hl 4 rfl) ?_
            exact z_iret C hlk hr hQ (by rw [if_pos (by omega), Int.toNat_natCast, Int.toNat_natCast, hs, show lo = 2 ^ (w * kq) by omega]) dX9_rows_111
          · have hst : lo ||| rq * 2 ^ (w * kq) < 2 ^ 16 := by refine Nat.or_lt_two_pow (by omega) (Nat.lt_of_lt_of_le (Nat.mul_lt_mul_of_pos_right (show rq < 2 ^ w by omega) (Nat.two_pow_pos _)) ?_); rw [← Nat.pow_add]; exact Nat.pow_le_pow_right (by decide) (by omega)
            have eb := enN_b (w := w) (le := le) (rg := rgOf ra rl) (rows := kq + 1) (s := lo ||| rq * 2 ^ (w * kq)) b3 (w * (kq + 1)) (by omega)
            refine lv_iload hx hb dX9_rows_55 (lv_at hl 6 rfl) ?_
            refine lv_iload_n hx hb dX9_rows_57 rfl (lv_at hl 2 rfl) ?_
            refine lv_iload hx hb dX9_rows_58 (lv_at hl 5 rfl) ?_
            refine z_ishlN C (rq) ((w * kq)) rfl rfl (by omega) dX9_rows_60 ?_
            refine z_ior C (lo) ((rq * 2 ^ (w * kq))) rfl rfl dX9_rows_61 ?_
            refine lv_istore (lv' := [(7, .int (zI (((lo ||| (rq * 2 ^ (w * kq))) : Nat) : Int))), (0, .ref (a)), (1, .int (zI ((kq : Nat) : Int))), (2, .int (zI ((rq : Nat) : Int))), (3, .int (zI (en))), (4, .int (zI ((nn : Nat) : Int))), (5, .int (zI (((w * kq) : Nat) : Int))), (6, .int (zI ((lo : Nat) : Int)))]) hx hb dX9_rows_62 hl (by decide) rfl (fun ls hl => ?_)
            refine lv_aload_n hx hb dX9_rows_64 rfl (lv_at hl 1 rfl) ?_
            refine z_get C hP 0 rfl rfl in_X9 21 (by decide) q1905 rfl dX9_rows_65 ?_
            refine lv_iload hx hb dX9_rows_68 (lv_at hl 0 rfl) ?_
            refine lv_iload hx hb dX9_rows_70 (lv_at hl 6 rfl) ?_
            refine lv_aload_n hx hb dX9_rows_72 rfl (lv_at hl 1 rfl) ?_
            refine z_get C hP 0 rfl rfl in_X9 17 (by decide) q1901 rfl dX9_rows_73 ?_
            refine z_iaddN C ((w * kq)) (w) rfl rfl dX9_rows_76 ?_
            refine z_cS (n := 3) (As := [.ref (qn), .int (zI (((lo ||| (rq * 2 ^ (w * kq))) : Nat) : Int)), .int (zI ((((w * kq) + w) : Nat) : Int))]) (rest := []) C (k_X9_isLawfulBy l D dA (qn) (f) ((lo ||| (rq * 2 ^ (w * kq)))) (((w * kq) + w)) (by first | with_reducible assumption | omega | with_reducible rfl) (by first | with_reducible assumption | omega | with_reducible rfl) (by first | with_reducible assumption | omega | with_reducible rfl)) (lw_S q2179 q2180 q124 q2181) (by decide +kernel) rfl ⟨Nat.le_of_ble_eq_true rfl, Nat.le_of_ble_eq_true rfl⟩ hl.1 (hP.sub [1] rfl) rfl (Nat.le_of_ble_eq_true rfl) dX9_rows_77 (Nat.zero_le _) (Nat.zero_le _) ?_
            refine z_if_eqB (tgt := 103) C dX9_rows_80 (by decide) (fun c_80 => ?_) (fun c_80 => ?_)
            · refine lv_iinc (v := zI ((lo + 1 : Nat) : Int)) (lv' := [(6, .int (zI ((lo + 1 : Nat) : Int))), (7, .int (zI (((lo ||| (rq * 2 ^ (w * kq))) : Nat) : Int))), (0, .ref (a)), (1, .int (zI ((kq : Nat) : Int))), (2, .int (zI ((rq : Nat) : Int))), (3, .int (zI (en))), (4, .int (zI ((nn : Nat) : Int))), (5, .int (zI (((w * kq) : Nat) : Int)))]) hx hb dX9_rows_103 hl (k := 7) rfl (zI_inc (by omega)) (by decide) rfl (fun ls hl => ?_)
              refine lv_goto (tgt := 46) hx hb dX9_rows_106 (by decide) ?_
              exact ih46 (lo + 1) (nn) (by first | with_reducible assumption | omega | with_reducible rfl) (by first | rw [cntN_t (by simp only [Bool.and_eq_true, decide_eq_true_eq]; exact ⟨c_80, by omega⟩), hs] | rw [cntN_f (by rw [c_80]; rfl), hs] | rw [cntN_f (by rw [c_80, Bool.true_and]; exact decide_eq_false (by omega)), hs]) (by first | with_reducible assumption | omega | with_reducible rfl) (by omega) ls (lv_sub hl [2, 3, 4, 5, 6, 7, 0] rfl)
            · refine lv_aload_n hx hb dX9_rows_83 rfl (lv_at hl 1 rfl) ?_
              refine lv_aload_n hx hb dX9_rows_84 rfl (lv_at hl 1 rfl) ?_
              refine z_get C hP 0 rfl rfl in_X9 21 (by decide) q1905 rfl dX9_rows_85 ?_
              refine lv_iload hx hb dX9_rows_88 (lv_at hl 0 rfl) ?_
              refine lv_iload_n hx hb dX9_rows_90 rfl (lv_at hl 2 rfl) ?_
              refine z_iconst C dX9_rows_91 ?_
              refine z_iaddN C (kq) (1) rfl rfl dX9_rows_92 ?_
              refine z_cV (n := 3) (As := [.ref (qn), .int (zI (((lo ||| (rq * 2 ^ (w * kq))) : Nat) : Int)), .int (zI (((kq + 1) : Nat) : Int))]) (rest := []) C hP (k_X9_energy l D dA (a) (v0) (v1) (v2) (v3) (v4) (v5) (v6) (v7) (v8) (v9) (v10) (v11) (v12) (v13) (v14) (v15) (v16) (v22) (v23) (v24) (v25) (v26) (v27) (v28) (v29) (v30) (v31) (v32) (v33) (v34) (v35) (v36) (v37) (v38) (v39) (v40) (v41) (v42) (v43) (v44) (w) (le) (ra) (rl) (qn) (qn) (f) ((lo ||| (rq * 2 ^ (w * kq)))) ((kq + 1)) (by first | with_reducible assumption | omega | with_reducible rfl) (by first | with_reducible assumption | omega | with_reducible rfl) (by first | with_reducible assumption | omega | with_reducible rfl) (by first | with_reducible assumption | omega | with_reducible rfl) (by first | with_reducible assumption | omega | with_reducible rfl)) (lw_V q2182 q2184 qs87 q124 q2185) (by decide +kernel) rfl ⟨Nat.le_of_ble_eq_true rfl, Nat.le_of_ble_eq_true rfl⟩ hl.1 (hP.sub [0, 1] rfl) 0 rfl rfl rfl (Nat.le_of_ble_eq_true rfl) dX9_rows_93 (Nat.zero_le _) (Nat.zero_le _) ?_
              refine lv_iload_n hx hb dX9_rows_96 rfl (lv_at hl 4 rfl) ?_
              refine z_icmp_ne (tgt := 103) C ⟨by omega, by omega⟩ ⟨by omega, by omega⟩ dX9_rows_97 (by decide) (fun c_97 => ?_) (fun c_97 => ?_)
              · refine lv_iinc (v := zI ((lo + 1 : Nat) : Int)) (lv' := [(6, .int (zI ((lo + 1 : Nat) : Int))), (7, .int (zI (((lo ||| (rq * 2 ^ (w * kq))) : Nat) : Int))), (0, .ref (a)), (1, .int (zI ((kq : Nat) : Int))), (2, .int (zI ((rq : Nat) : Int))), (3, .int (zI (en))), (4, .int (zI ((nn : Nat) : Int))), (5, .int (zI (((w * kq) : Nat) : Int)))]) hx hb dX9_rows_103 hl (k := 7) rfl (zI_inc (by omega)) (by decide) rfl (fun ls hl => ?_)
                refine lv_goto (tgt := 46) hx hb dX9_rows_106 (by decide) ?_
                exact ih46 (lo + 1) (nn) (by first | with_reducible assumption | omega | with_reducible rfl) (by first | rw [cntN_t (by simp only [Bool.and_eq_true, decide_eq_true_eq]; exact ⟨c_80, by omega⟩), hs] | rw [cntN_f (by rw [c_80]; rfl), hs] | rw [cntN_f (by rw [c_80, Bool.true_and]; exact decide_eq_false (by omega)), hs]) (by first | with_reducible assumption | omega | with_reducible rfl) (by omega) ls (lv_sub hl [2, 3, 4, 5, 6, 7, 0] rfl)
              · refine lv_iinc (v := zI ((nn + 1 : Nat) : Int)) (lv' := [(4, .int (zI ((nn + 1 : Nat) : Int))), (7, .int (zI (((lo ||| (rq * 2 ^ (w * kq))) : Nat) : Int))), (0, .ref (a)), (1, .int (zI ((kq : Nat) : Int))), (2, .int (zI ((rq : Nat) : Int))), (3, .int (zI (en))), (5, .int (zI (((w * kq) : Nat) : Int))), (6, .int (zI ((lo : Nat) : Int)))]) hx hb dX9_rows_100 hl (k := 5) rfl (zI_inc (by omega)) (by decide) rfl (fun ls hl => ?_)
                refine lv_iinc (v := zI ((lo + 1 : Nat) : Int)) (lv' := [(6, .int (zI ((lo + 1 : Nat) : Int))), (4, .int (zI ((nn + 1 : Nat) : Int))), (7, .int (zI (((lo ||| (rq * 2 ^ (w * kq))) : Nat) : Int))), (0, .ref (a)), (1, .int (zI ((kq : Nat) : Int))), (2, .int (zI ((rq : Nat) : Int))), (3, .int (zI (en))), (5, .int (zI (((w * kq) : Nat) : Int)))]) hx hb dX9_rows_103 hl (k := 7) rfl (zI_inc (by omega)) (by decide) rfl (fun ls hl => ?_)
                refine lv_goto (tgt := 46) hx hb dX9_rows_106 (by decide) ?_
                exact ih46 (lo + 1) (nn + 1) (by first | with_reducible assumption | omega | with_reducible rfl) (by first | rw [cntN_t (by simp only [Bool.and_eq_true, decide_eq_true_eq]; exact ⟨c_80, by omega⟩), hs] | rw [cntN_f (by rw [c_80]; rfl), hs] | rw [cntN_f (by rw [c_80, Bool.true_and]; exact decide_eq_false (by omega)), hs]) (by first | with_reducible assumption | omega | with_reducible rfl) (by omega) ls (lv_sub hl [3, 4, 5, 6, 1, 7, 0] rfl)
      exact L46 ((2 ^ (w * kq) - 0) + 1) (0) (0) (Nat.zero_le _) rfl (by first | with_reducible assumption | omega | with_reducible rfl) (by omega) ls (lv_sub hl [3, 4, 5, 6, 2, 1, 0] rfl)
    · have c_27 := of_decide_eq_false c_27
      refine z_iconst C dX9_rows_30 ?_
      exact z_iret C hlk hr hQ (by rw [if_neg]; intro q; omega) dX9_rows_31
