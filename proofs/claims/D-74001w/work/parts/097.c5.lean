set_option maxHeartbeats 600000 in
set_option maxRecDepth 100000 in
theorem k_X7_spin (l : Launch) (D : va_G) (dA : Nat → ClassId) (ro k : Nat) (hs : ro < 2147483648) (hk : k < 32) : zM l yX7_spin cX7_spin 2 (some .int) (zRm 1 21) D dA [.int (zI ((ro : Nat) : Int)), .int (zI ((k : Nat) : Int))] [] (some (.int (zI (spn ro k)))) := by
  refine zM.of (by decide +kernel) rfl ?_
  intro pp ee ss mm args below meth cd Q C hr hlk hQ hP ls hl
  have hx := C.1.1
  have hb := C.1.2.1
  have hl : lv_has ls 2 [(0, .int (zI ((ro : Nat) : Int))), (1, .int (zI ((k : Nat) : Int)))] := hl
  refine lv_iload_n hx hb dX7_spin_0 rfl (lv_at hl 0 rfl) ?_
  refine lv_iload_n hx hb dX7_spin_1 rfl (lv_at hl 1 rfl) ?_
  refine z_cSN (n := 2) (As := [.int (zI ((ro : Nat) : Int)), .int (zI ((k : Nat) : Int))]) (rest := []) C (k_X0_has l D dA (ro) (k) (by first | with_reducible assumption | omega | with_reducible rfl) (by first | with_reducible assumption | omega | with_reducible rfl)) (List.mem_of_getElem? (i := 9) rfl) q789 q108 q788 (by decide +kernel) rfl ⟨Nat.le_of_ble_eq_true rfl, Nat.le_of_ble_eq_true rfl⟩ hl.1 (hP.sub [] rfl) rfl (Nat.le_of_ble_eq_true rfl) dX7_spin_2 (Nat.zero_le _) (Nat.zero_le _) ?_
  refine z_if_eqB (tgt := 12) C dX7_spin_5 (by decide) (fun c_5 => ?_) (fun c_5 => ?_)
  · refine z_iconst C dX7_spin_12 ?_
    exact z_iret C hlk hr hQ (by unfold spn; rw [c_5]; simp) dX7_spin_13
  · refine z_iconst C dX7_spin_8 ?_
    refine lv_goto (tgt := 13) hx hb dX7_spin_9 (by decide) ?_
    exact z_iret C hlk hr hQ (by unfold spn; rw [c_5]; simp) dX7_spin_13
set_option maxHeartbeats 600000 in
set_option maxRecDepth 100000 in
theorem k_X7_isLawful (l : Launch) (D : va_G) (dA : Nat → ClassId) (a sp w le rg st sd qa ql qf up dn : Nat) (x1 x2 x3 : Value) (k ro : Nat) (hw : w ≤ 4) (hwk : w * k < 32) (hu : up < 65536) (hd : dn < 65536) (hro : ro < 65536) : zM l yX7_isLawful cX7_isLawful 5 (some .boolean) (zRm 0 0) D dA [.ref (a), .int (zI ((k : Nat) : Int)), .int (zI ((ro : Nat) : Int))] [(a, .inr (7, [.ref (sp), x1, x2, x3])), (sp, .inr (4, [.int (zI ((w : Nat) : Int)), .int (zI ((le : Nat) : Int)), .int (zI ((rg : Nat) : Int)), .int (zI ((st : Nat) : Int)), .int (zI ((sd : Nat) : Int)), .ref (qa), .ref (ql), .ref (qf), .int (zI ((up : Nat) : Int)), .int (zI ((dn : Nat) : Int))]))] (some (.int (zB (rwL w up dn k ro)))) := by
  refine zM.of (by decide +kernel) rfl ?_
  intro pp ee ss mm args below meth cd Q C hr hlk hQ hP ls hl
  have hx := C.1.1
  have hb := C.1.2.1
  have hl : lv_has ls 5 [(0, .ref (a)), (1, .int (zI ((k : Nat) : Int))), (2, .int (zI ((ro : Nat) : Int)))] := hl
  have hw2 := Nat.two_pow_pos w
  have hs1 : up >>> (w * k) ≤ up := by rw [Nat.shiftRight_eq_div_pow]; exact Nat.div_le_self _ _
  have hs2 : dn >>> (w * k) ≤ dn := by rw [Nat.shiftRight_eq_div_pow]; exact Nat.div_le_self _ _
  have ha1 : ((up >>> (w * k)) &&& (2 ^ w - 1) : Nat) ≤ up >>> (w * k) := Nat.and_le_left
  have ha2 : ((dn >>> (w * k)) &&& ro : Nat) ≤ dn >>> (w * k) := Nat.and_le_left
  have hz1 : zclr ((up >>> (w * k)) &&& (2 ^ w - 1)) ro < 2 ^ 16 := Nat.xor_lt_two_pow (by omega) (Nat.lt_of_le_of_lt Nat.and_le_left (by omega))
  refine lv_aload_n hx hb dX7_isLawful_0 rfl (lv_at hl 0 rfl) ?_
  refine z_get C hP 0 rfl rfl in_X7 0 (by decide) q468 rfl dX7_isLawful_1 ?_
  refine z_get C hP 1 rfl rfl in_X4 0 (by decide) q294 rfl dX7_isLawful_4 ?_
  refine lv_iload_n hx hb dX7_isLawful_7 rfl (lv_at hl 1 rfl) ?_
  refine z_imulN C (w) (k) rfl rfl dX7_isLawful_8 ?_
  refine lv_istore_n (lv' := [(3, .int (zI (((w * k) : Nat) : Int))), (0, .ref (a)), (1, .int (zI ((k : Nat) : Int))), (2, .int (zI ((ro : Nat) : Int)))]) hx hb dX7_isLawful_9 rfl hl (by decide) rfl (fun ls hl => ?_)
  refine z_iconst C dX7_isLawful_10 ?_
  refine lv_aload_n hx hb dX7_isLawful_11 rfl (lv_at hl 1 rfl) ?_
  refine z_get C hP 0 rfl rfl in_X7 0 (by decide) q468 rfl dX7_isLawful_12 ?_
  refine z_get C hP 1 rfl rfl in_X4 0 (by decide) q294 rfl dX7_isLawful_15 ?_
  refine z_ishl1 C (w) rfl rfl (by omega) dX7_isLawful_18 ?_
  refine z_iconst C dX7_isLawful_19 ?_
  refine z_isubN C ((2 ^ w)) (1) rfl rfl (by omega) dX7_isLawful_20 ?_
  refine lv_istore (lv' := [(4, .int (zI ((((2 ^ w) - 1) : Nat) : Int))), (3, .int (zI (((w * k) : Nat) : Int))), (0, .ref (a)), (1, .int (zI ((k : Nat) : Int))), (2, .int (zI ((ro : Nat) : Int)))]) hx hb dX7_isLawful_21 hl (by decide) rfl (fun ls hl => ?_)
  refine lv_aload_n hx hb dX7_isLawful_23 rfl (lv_at hl 2 rfl) ?_
  refine z_get C hP 0 rfl rfl in_X7 0 (by decide) q468 rfl dX7_isLawful_24 ?_
  refine z_get C hP 1 rfl rfl in_X4 8 (by decide) q321 rfl dX7_isLawful_27 ?_
  refine lv_iload_n hx hb dX7_isLawful_30 rfl (lv_at hl 1 rfl) ?_
  refine z_ishrN C (up) ((w * k)) rfl rfl (by omega) (by omega) dX7_isLawful_31 ?_
  refine lv_iload hx hb dX7_isLawful_32 (lv_at hl 0 rfl) ?_
  refine z_iand C ((up >>> (w * k))) (((2 ^ w) - 1)) rfl rfl dX7_isLawful_34 ?_
  refine lv_iload_n hx hb dX7_isLawful_35 rfl (lv_at hl 4 rfl) ?_
  refine z_iconst C dX7_isLawful_36 ?_
  refine z_inot C dX7_isLawful_37 ?_
  refine z_iandnot C (((up >>> (w * k)) &&& ((2 ^ w) - 1))) (ro) rfl rfl dX7_isLawful_38 ?_
  refine z_if_ne (tgt := 60) C ⟨by omega, by omega⟩ dX7_isLawful_39 (by decide) (fun c_39 => ?_) (fun c_39 => ?_)
  · refine z_iconst C dX7_isLawful_60 ?_
    exact z_zret0 C hlk hr hQ (by unfold rwL; first | (rw [decide_eq_false (show ¬ zclr ((up >>> (w * k)) &&& (2 ^ w - 1)) ro = 0 by omega)]; rfl) | (rw [decide_eq_false (show ¬ ((dn >>> (w * k)) &&& ro : Nat) = 0 by omega), Bool.and_false]; done)) dX7_isLawful_61
  · refine lv_aload_n hx hb dX7_isLawful_42 rfl (lv_at hl 2 rfl) ?_
    refine z_get C hP 0 rfl rfl in_X7 0 (by decide) q468 rfl dX7_isLawful_43 ?_
    refine z_get C hP 1 rfl rfl in_X4 9 (by decide) q325 rfl dX7_isLawful_46 ?_
    refine lv_iload_n hx hb dX7_isLawful_49 rfl (lv_at hl 1 rfl) ?_
    refine z_ishrN C (dn) ((w * k)) rfl rfl (by omega) (by omega) dX7_isLawful_50 ?_
    refine lv_iload_n hx hb dX7_isLawful_51 rfl (lv_at hl 4 rfl) ?_
    refine z_iand C ((dn >>> (w * k))) (ro) rfl rfl dX7_isLawful_52 ?_
    refine z_if_ne (tgt := 60) C ⟨by omega, by omega⟩ dX7_isLawful_53 (by decide) (fun c_53 => ?_) (fun c_53 => ?_)
    · refine z_iconst C dX7_isLawful_60 ?_
      exact z_zret0 C hlk hr hQ (by unfold rwL; first | (rw [decide_eq_false (show ¬ zclr ((up >>> (w * k)) &&& (2 ^ w - 1)) ro = 0 by omega)]; rfl) | (rw [decide_eq_false (show ¬ ((dn >>> (w * k)) &&& ro : Nat) = 0 by omega), Bool.and_false]; done)) dX7_isLawful_61
    · refine z_iconst C dX7_isLawful_56 ?_
      refine lv_goto (tgt := 61) hx hb dX7_isLawful_57 (by decide) ?_
      exact z_zret1 C hlk hr hQ (by unfold rwL; rw [decide_eq_true (by omega), decide_eq_true (by omega)]; rfl) dX7_isLawful_61
set_option maxHeartbeats 600000 in
set_option maxRecDepth 100000 in
theorem k_X7_within (l : Launch) (D : va_G) (dA : Nat → ClassId) (a sp w le rg st sd qa ql qf up dn : Nat) (x1 x2 x3 : Value) (fa ff : Nat → Int) (k ro : Nat) (hw : w ≤ 4) (hwl : w * le ≤ 16) (hk : k < le) (hrg : rg < 2147483648) (hro : ro < 65536) : zM l yX7_within cX7_within 7 (some .int) (zRm 2 45) D dA [.ref (a), .int (zI ((k : Nat) : Int)), .int (zI ((ro : Nat) : Int))] [(a, .inr (7, [.ref (sp), x1, x2, x3])), (sp, .inr (4, [.int (zI ((w : Nat) : Int)), .int (zI ((le : Nat) : Int)), .int (zI ((rg : Nat) : Int)), .int (zI ((st : Nat) : Int)), .int (zI ((sd : Nat) : Int)), .ref (qa), .ref (ql), .ref (qf), .int (zI ((up : Nat) : Int)), .int (zI ((dn : Nat) : Int))])), (qa, .inl (dA 3, 16, .inl (fun jz => zI (fa jz)))), (qf, .inl (dA 3, 16, .inl (fun jz => zI (ff jz))))] (some (.int (zI (wiN w le rg fa ff k ro w)))) := by
  refine zM.of (by decide +kernel) rfl ?_
  intro pp ee ss mm args below meth cd Q C hr hlk hQ hP ls hl
  have hx := C.1.1
  have hb := C.1.2.1
  have hl : lv_has ls 7 [(0, .ref (a)), (1, .int (zI ((k : Nat) : Int))), (2, .int (zI ((ro : Nat) : Int)))] := hl
  have hk1 := row_le (w := w) (le := le) (r := k) hk
  refine z_iconst C dX7_within_0 ?_
  refine lv_istore_n (lv' := [(3, .int (zI 0)), (0, .ref (a)), (1, .int (zI ((k : Nat) : Int))), (2, .int (zI ((ro : Nat) : Int)))]) hx hb dX7_within_1 rfl hl (by decide) rfl (fun ls hl => ?_)
  refine z_iconst C dX7_within_2 ?_
  refine lv_istore (lv' := [(4, .int (zI 0)), (3, .int (zI 0)), (0, .ref (a)), (1, .int (zI ((k : Nat) : Int))), (2, .int (zI ((ro : Nat) : Int)))]) hx hb dX7_within_3 hl (by decide) rfl (fun ls hl => ?_)
  have L5 : ∀ (N : Nat) (cc9 : Nat) (sm : Int), (cc9 ≤ w) → (sm = wiN w le rg fa ff k ro cc9) → (w - cc9) < N → ∀ ls : Array Slot, lv_has ls 7 [(0, .ref (a)), (1, .int (zI ((k : Nat) : Int))), (2, .int (zI ((ro : Nat) : Int))), (3, .int (zI (sm))), (4, .int (zI ((cc9 : Nat) : Int)))] → W pp l ee (zRm 2 45) ss mm args below meth cd ss.heap [] 0 0 Q (F0 mm 5 ls []) := by
    intro N
    induction N with
    | zero => intro cc9 sm _ _ hm; exact absurd hm (Nat.not_lt_zero _)
    | succ N ih5 =>
      intro cc9 sm hc hs hmz5 ls hl
      refine lv_iload hx hb dX7_within_5 (lv_at hl 4 rfl) ?_
      refine lv_aload_n hx hb dX7_within_7 rfl (lv_at hl 0 rfl) ?_
      refine z_get C hP 0 rfl rfl in_X7 0 (by decide) q468 rfl dX7_within_8 ?_
      refine z_get C hP 1 rfl rfl in_X4 0 (by decide) q294 rfl dX7_within_11 ?_
      refine z_icmp_ge (tgt := 109) C ⟨by omega, by omega⟩ ⟨by omega, by omega⟩ dX7_within_14 (by decide) (fun c_14 => ?_) (fun c_14 => ?_)
      · refine lv_iload_n hx hb dX7_within_109 rfl (lv_at hl 3 rfl) ?_
        exact z_iret C hlk hr hQ (by rw [hs, show cc9 = w by omega]) dX7_within_110
      · have o9 := oth_lt rg false (show w * k + cc9 < w * le by omega)
        refine lv_aload_n hx hb dX7_within_17 rfl (lv_at hl 0 rfl) ?_
        refine z_get C hP 0 rfl rfl in_X7 0 (by decide) q468 rfl dX7_within_18 ?_
        refine z_get C hP 1 rfl rfl in_X4 0 (by decide) q294 rfl dX7_within_21 ?_
        refine lv_iload_n hx hb dX7_within_24 rfl (lv_at hl 1 rfl) ?_
        refine z_imulN C (w) (k) rfl rfl dX7_within_25 ?_
        refine lv_iload hx hb dX7_within_26 (lv_at hl 4 rfl) ?_
        refine z_iaddN C ((w * k)) (cc9) rfl rfl dX7_within_28 ?_
        refine lv_istore (lv' := [(5, .int (zI ((((w * k) + cc9) : Nat) : Int))), (0, .ref (a)), (1, .int (zI ((k : Nat) : Int))), (2, .int (zI ((ro : Nat) : Int))), (3, .int (zI (sm))), (4, .int (zI ((cc9 : Nat) : Int)))]) hx hb dX7_within_29 hl (by decide) rfl (fun ls hl => ?_)
        refine lv_aload_n hx hb dX7_within_31 rfl (lv_at hl 1 rfl) ?_
        refine z_get C hP 0 rfl rfl in_X7 0 (by decide) q468 rfl dX7_within_32 ?_
        refine lv_iload hx hb dX7_within_35 (lv_at hl 0 rfl) ?_
        refine z_iconst C dX7_within_37 ?_
        refine z_cV (n := 2) (As := [.int (zI ((((w * k) + cc9) : Nat) : Int)), .int (zI 0)]) (rest := []) C hP (k_X4_other l D dA (sp) (w) (le) (rg) (st) (sd) (qa) (ql) (qf) (up) (dn) (((w * k) + cc9)) (false) (by first | with_reducible assumption | omega | with_reducible rfl) (by first | with_reducible assumption | omega | with_reducible rfl) (by first | with_reducible assumption | omega | with_reducible rfl)) (lw_V q1592 q784 q785 q115 q786) (by decide +kernel) rfl ⟨Nat.le_of_ble_eq_true rfl, Nat.le_of_ble_eq_true rfl⟩ hl.1 (hP.sub [1] rfl) 1 rfl rfl rfl (Nat.le_of_ble_eq_true rfl) dX7_within_38 (Nat.zero_le _) (Nat.zero_le _) ?_
        refine z_nm (fun to_1 e_to_1 => ?_)
        rw [← e_to_1] at o9
        refine lv_istore (lv' := [(6, .int (zI (to_1))), (5, .int (zI ((((w * k) + cc9) : Nat) : Int))), (0, .ref (a)), (1, .int (zI ((k : Nat) : Int))), (2, .int (zI ((ro : Nat) : Int))), (3, .int (zI (sm))), (4, .int (zI ((cc9 : Nat) : Int)))]) hx hb dX7_within_41 hl (by decide) rfl (fun ls hl => ?_)
        refine lv_iload_n hx hb dX7_within_43 rfl (lv_at hl 5 rfl) ?_
        refine lv_aload_n hx hb dX7_within_44 rfl (lv_at hl 2 rfl) ?_
        refine z_get C hP 0 rfl rfl in_X7 0 (by decide) q468 rfl dX7_within_45 ?_
        refine z_get C hP 1 rfl rfl in_X4 7 (by decide) q318 rfl dX7_within_48 ?_
        refine lv_iload hx hb dX7_within_51 (lv_at hl 1 rfl) ?_
        refine z_iald C hP 3 rfl (((w * k) + cc9)) rfl (by omega) (by decide) dX7_within_53 ?_
        refine lv_iload_n hx hb dX7_within_54 rfl (lv_at hl 4 rfl) ?_
        refine lv_iload hx hb dX7_within_55 (lv_at hl 6 rfl) ?_
        refine z_cS (n := 2) (As := [.int (zI ((ro : Nat) : Int)), .int (zI ((cc9 : Nat) : Int))]) (rest := [.int (zI (ff ((w * k) + cc9))), .int (zI (sm))]) C (k_X7_spin l D dA (ro) (cc9) (by first | with_reducible assumption | omega | with_reducible rfl) (by first | with_reducible assumption | omega | with_reducible rfl)) (lw_S q1593 q1594 q120 q1595) (by decide +kernel) rfl ⟨Nat.le_of_ble_eq_true rfl, Nat.le_of_ble_eq_true rfl⟩ hl.1 (hP.sub [] rfl) rfl (Nat.le_of_ble_eq_true rfl) dX7_within_57 (Nat.zero_le _) (Nat.zero_le _) ?_
        refine z_imul C dX7_within_60 ?_
        refine z_isub C dX7_within_61 ?_
        refine lv_istore_n (lv' := [(3, .int (zI ((sm) - ((ff ((w * k) + cc9)) * (spn ro cc9))))), (6, .int (zI (to_1))), (5, .int (zI ((((w * k) + cc9) : Nat) : Int))), (0, .ref (a)), (1, .int (zI ((k : Nat) : Int))), (2, .int (zI ((ro : Nat) : Int))), (4, .int (zI ((cc9 : Nat) : Int)))]) hx hb dX7_within_62 rfl hl (by decide) rfl (fun ls hl => ?_)
        refine lv_iload hx hb dX7_within_63 (lv_at hl 1 rfl) ?_
        refine z_if_lt (tgt := 103) C ⟨by omega, by omega⟩ dX7_within_65 (by decide) (fun c_65 => ?_) (fun c_65 => ?_)
        · refine lv_iinc (v := zI ((cc9 + 1 : Nat) : Int)) (lv' := [(4, .int (zI ((cc9 + 1 : Nat) : Int))), (3, .int (zI ((sm) - ((ff ((w * k) + cc9)) * (spn ro cc9))))), (6, .int (zI (to_1))), (5, .int (zI ((((w * k) + cc9) : Nat) : Int))), (0, .ref (a)), (1, .int (zI ((k : Nat) : Int))), (2, .int (zI ((ro : Nat) : Int)))]) hx hb dX7_within_103 hl (k := 6) rfl (zI_inc (by omega)) (by decide) rfl (fun ls hl => ?_)
          refine lv_goto (tgt := 5) hx hb dX7_within_106 (by decide) ?_
          exact ih5 (cc9 + 1) (((sm) - ((ff ((w * k) + cc9)) * (spn ro cc9)))) (by first | with_reducible assumption | omega | with_reducible rfl) (by simp only [wiN]; rw [← hs, ← e_to_1]; first | (rw [if_neg (by omega)]; omega) | (rw [if_pos (by omega), Int.toNat_natCast]; done)) (by omega) ls (lv_sub hl [4, 5, 6, 1, 0] rfl)
        · obtain ⟨tn, rfl⟩ : ∃ q : Nat, to_1 = (q : Int) := ⟨to_1.toNat, by omega⟩
          have tm9 := Nat.mod_lt tn (show 0 < w by omega)
          refine lv_iload_n hx hb dX7_within_68 rfl (lv_at hl 0 rfl) ?_
          refine lv_aload_n hx hb dX7_within_69 rfl (lv_at hl 3 rfl) ?_
          refine z_get C hP 0 rfl rfl in_X7 0 (by decide) q468 rfl dX7_within_70 ?_
          refine z_get C hP 1 rfl rfl in_X4 5 (by decide) q312 rfl dX7_within_73 ?_
          refine lv_iload hx hb dX7_within_76 (lv_at hl 2 rfl) ?_
          refine z_iald C hP 2 rfl (((w * k) + cc9)) rfl (by omega) (by decide) dX7_within_78 ?_
          refine lv_iload_n hx hb dX7_within_79 rfl (lv_at hl 5 rfl) ?_
          refine lv_iload hx hb dX7_within_80 (lv_at hl 6 rfl) ?_
          refine z_cS (n := 2) (As := [.int (zI ((ro : Nat) : Int)), .int (zI ((cc9 : Nat) : Int))]) (rest := [.int (zI (fa ((w * k) + cc9))), .int (zI ((sm) - ((ff ((w * k) + cc9)) * (spn ro cc9))))]) C (k_X7_spin l D dA (ro) (cc9) (by first | with_reducible assumption | omega | with_reducible rfl) (by first | with_reducible assumption | omega | with_reducible rfl)) (lw_S q1593 q1594 q120 q1595) (by decide +kernel) rfl ⟨Nat.le_of_ble_eq_true rfl, Nat.le_of_ble_eq_true rfl⟩ hl.1 (hP.sub [] rfl) rfl (Nat.le_of_ble_eq_true rfl) dX7_within_82 (Nat.zero_le _) (Nat.zero_le _) ?_
          refine z_imul C dX7_within_85 ?_
          refine lv_iload_n hx hb dX7_within_86 rfl (lv_at hl 5 rfl) ?_
          refine lv_iload hx hb dX7_within_87 (lv_at hl 1 rfl) ?_
          refine lv_aload_n hx hb dX7_within_89 rfl (lv_at hl 3 rfl) ?_
          refine z_get C hP 0 rfl rfl in_X7 0 (by decide) q468 rfl dX7_within_90 ?_
          refine z_get C hP 1 rfl rfl in_X4 0 (by decide) q294 rfl dX7_within_93 ?_
          refine z_iremN C (tn) (w) rfl rfl (by omega) ⟨by omega, by omega⟩ dX7_within_96 ?_
          refine z_cS (n := 2) (As := [.int (zI ((ro : Nat) : Int)), .int (zI (((tn % w) : Nat) : Int))]) (rest := [.int (zI ((fa ((w * k) + cc9)) * (spn ro cc9))), .int (zI ((sm) - ((ff ((w * k) + cc9)) * (spn ro cc9))))]) C (k_X7_spin l D dA (ro) ((tn % w)) (by first | with_reducible assumption | omega | with_reducible rfl) (by first | with_reducible assumption | omega | with_reducible rfl)) (lw_S q1593 q1594 q120 q1595) (by decide +kernel) rfl ⟨Nat.le_of_ble_eq_true rfl, Nat.le_of_ble_eq_true rfl⟩ hl.1 (hP.sub [] rfl) rfl (Nat.le_of_ble_eq_true rfl) dX7_within_97 (Nat.zero_le _) (Nat.zero_le _) ?_
          refine z_imul C dX7_within_100 ?_
          refine z_isub C dX7_within_101 ?_
          refine lv_istore_n (lv' := [(3, .int (zI (((sm) - ((ff ((w * k) + cc9)) * (spn ro cc9))) - (((fa ((w * k) + cc9)) * (spn ro cc9)) * (spn ro ((tn % w))))))), (6, .int (zI ((tn : Nat) : Int))), (5, .int (zI ((((w * k) + cc9) : Nat) : Int))), (0, .ref (a)), (1, .int (zI ((k : Nat) : Int))), (2, .int (zI ((ro : Nat) : Int))), (4, .int (zI ((cc9 : Nat) : Int)))]) hx hb dX7_within_102 rfl hl (by decide) rfl (fun ls hl => ?_)
          refine lv_iinc (v := zI ((cc9 + 1 : Nat) : Int)) (lv' := [(4, .int (zI ((cc9 + 1 : Nat) : Int))), (3, .int (zI (((sm) - ((ff ((w * k) + cc9)) * (spn ro cc9))) - (((fa ((w * k) + cc9)) * (spn ro cc9)) * (spn ro ((tn % w))))))), (6, .int (zI ((tn : Nat) : Int))), (5, .int (zI ((((w * k) + cc9) : Nat) : Int))), (0, .ref (a)), (1, .int (zI ((k : Nat) : Int))), (2, .int (zI ((ro : Nat) : Int)))]) hx hb dX7_within_103 hl (k := 6) rfl (zI_inc (by omega)) (by decide) rfl (fun ls hl => ?_)
          refine lv_goto (tgt := 5) hx hb dX7_within_106 (by decide) ?_
          exact ih5 (cc9 + 1) ((((sm) - ((ff ((w * k) + cc9)) * (spn ro cc9))) - (((fa ((w * k) + cc9)) * (spn ro cc9)) * (spn ro ((tn % w)))))) (by first | with_reducible assumption | omega | with_reducible rfl) (by simp only [wiN]; rw [← hs, ← e_to_1]; first | (rw [if_neg (by omega)]; omega) | (rw [if_pos (by omega), Int.toNat_natCast]; done)) (by omega) ls (lv_sub hl [4, 5, 6, 1, 0] rfl)
  exact L5 ((w - 0) + 1) (0) (0) (by first | with_reducible assumption | omega | with_reducible rfl) rfl (by omega) ls (lv_sub hl [2, 3, 4, 1, 0] rfl)
set_option maxHeartbeats 600000 in
set_option maxRecDepth 100000 in
theorem k_X7_between (l : Launch) (D : va_G) (dA : Nat → ClassId) (a sp w le rg st sd qa ql qf up dn : Nat) (x1 x2 x3 : Value) (fl : Nat → Int) (k ro to : Nat) (hw : w ≤ 4) (hwl : w * le ≤ 16) (hk : k < le) (hro : ro < 65536) (hto : to < 65536) : zM l yX7_between cX7_between 6 (some .int) (zRm 2 42) D dA [.ref (a), .int (zI ((k : Nat) : Int)), .int (zI ((ro : Nat) : Int)), .int (zI ((to : Nat) : Int))] [(a, .inr (7, [.ref (sp), x1, x2, x3])), (sp, .inr (4, [.int (zI ((w : Nat) : Int)), .int (zI ((le : Nat) : Int)), .int (zI ((rg : Nat) : Int)), .int (zI ((st : Nat) : Int)), .int (zI ((sd : Nat) : Int)), .ref (qa), .ref (ql), .ref (qf), .int (zI ((up : Nat) : Int)), .int (zI ((dn : Nat) : Int))])), (ql, .inl (dA 3, 16, .inl (fun jz => zI (fl jz))))] (some (.int (zI (btN w fl k ro to w)))) := by
  refine zM.of (by decide +kernel) rfl ?_
  intro pp ee ss mm args below meth cd Q C hr hlk hQ hP ls hl
  have hx := C.1.1
  have hb := C.1.2.1
  have hl : lv_has ls 6 [(0, .ref (a)), (1, .int (zI ((k : Nat) : Int))), (2, .int (zI ((ro : Nat) : Int))), (3, .int (zI ((to : Nat) : Int)))] := hl
  have hk1 := row_le (w := w) (le := le) (r := k) hk
  refine z_iconst C dX7_between_0 ?_
  refine lv_istore (lv' := [(4, .int (zI 0)), (0, .ref (a)), (1, .int (zI ((k : Nat) : Int))), (2, .int (zI ((ro : Nat) : Int))), (3, .int (zI ((to : Nat) : Int)))]) hx hb dX7_between_1 hl (by decide) rfl (fun ls hl => ?_)
  refine z_iconst C dX7_between_3 ?_
  refine lv_istore (lv' := [(5, .int (zI 0)), (4, .int (zI 0)), (0, .ref (a)), (1, .int (zI ((k : Nat) : Int))), (2, .int (zI ((ro : Nat) : Int))), (3, .int (zI ((to : Nat) : Int)))]) hx hb dX7_between_4 hl (by decide) rfl (fun ls hl => ?_)
  have L6 : ∀ (N : Nat) (cc9 : Nat) (sm : Int), (cc9 ≤ w) → (sm = btN w fl k ro to cc9) → (w - cc9) < N → ∀ ls : Array Slot, lv_has ls 6 [(0, .ref (a)), (1, .int (zI ((k : Nat) : Int))), (2, .int (zI ((ro : Nat) : Int))), (3, .int (zI ((to : Nat) : Int))), (4, .int (zI (sm))), (5, .int (zI ((cc9 : Nat) : Int)))] → W pp l ee (zRm 2 42) ss mm args below meth cd ss.heap [] 0 0 Q (F0 mm 6 ls []) := by
    intro N
    induction N with
    | zero => intro cc9 sm _ _ hm; exact absurd hm (Nat.not_lt_zero _)
    | succ N ih6 =>
      intro cc9 sm hc hs hmz6 ls hl
      refine lv_iload hx hb dX7_between_6 (lv_at hl 5 rfl) ?_
      refine lv_aload_n hx hb dX7_between_8 rfl (lv_at hl 0 rfl) ?_
      refine z_get C hP 0 rfl rfl in_X7 0 (by decide) q468 rfl dX7_between_9 ?_
      refine z_get C hP 1 rfl rfl in_X4 0 (by decide) q294 rfl dX7_between_12 ?_
      refine z_icmp_ge (tgt := 63) C ⟨by omega, by omega⟩ ⟨by omega, by omega⟩ dX7_between_15 (by decide) (fun c_15 => ?_) (fun c_15 => ?_)
      · refine lv_iload hx hb dX7_between_63 (lv_at hl 4 rfl) ?_
        exact z_iret C hlk hr hQ (by rw [hs, show cc9 = w by omega]) dX7_between_65
      · refine lv_iload hx hb dX7_between_18 (lv_at hl 4 rfl) ?_
        refine lv_aload_n hx hb dX7_between_20 rfl (lv_at hl 0 rfl) ?_
        refine z_get C hP 0 rfl rfl in_X7 0 (by decide) q468 rfl dX7_between_21 ?_
        refine z_get C hP 1 rfl rfl in_X4 6 (by decide) q315 rfl dX7_between_24 ?_
        refine lv_aload_n hx hb dX7_between_27 rfl (lv_at hl 0 rfl) ?_
        refine z_get C hP 0 rfl rfl in_X7 0 (by decide) q468 rfl dX7_between_28 ?_
        refine z_get C hP 1 rfl rfl in_X4 0 (by decide) q294 rfl dX7_between_31 ?_
        refine lv_iload_n hx hb dX7_between_34 rfl (lv_at hl 1 rfl) ?_
        refine z_imulN C (w) (k) rfl rfl dX7_between_35 ?_
        refine lv_iload hx hb dX7_between_36 (lv_at hl 5 rfl) ?_
        refine z_iaddN C ((w * k)) (cc9) rfl rfl dX7_between_38 ?_
        refine z_iald C hP 2 rfl (((w * k) + cc9)) rfl (by omega) (by decide) dX7_between_39 ?_
        refine lv_iload_n hx hb dX7_between_40 rfl (lv_at hl 2 rfl) ?_
        refine lv_iload hx hb dX7_between_41 (lv_at hl 5 rfl) ?_
        refine z_cS (n := 2) (As := [.int (zI ((ro : Nat) : Int)), .int (zI ((cc9 : Nat) : Int))]) (rest := [.int (zI (fl ((w * k) + cc9))), .int (zI (sm))]) C (k_X7_spin l D dA (ro) (cc9) (by first | with_reducible assumption | omega | with_reducible rfl) (by first | with_reducible assumption | omega | with_reducible rfl)) (lw_S q1593 q1594 q120 q1595) (by decide +kernel) rfl ⟨Nat.le_of_ble_eq_true rfl, Nat.le_of_ble_eq_true rfl⟩ hl.1 (hP.sub [] rfl) rfl (Nat.le_of_ble_eq_true rfl) dX7_between_43 (Nat.zero_le _) (Nat.zero_le _) ?_
        refine z_imul C dX7_between_46 ?_
        refine lv_iload_n hx hb dX7_between_47 rfl (lv_at hl 3 rfl) ?_
        refine lv_iload hx hb dX7_between_48 (lv_at hl 5 rfl) ?_
        refine z_cS (n := 2) (As := [.int (zI ((to : Nat) : Int)), .int (zI ((cc9 : Nat) : Int))]) (rest := [.int (zI ((fl ((w * k) + cc9)) * (spn ro cc9))), .int (zI (sm))]) C (k_X7_spin l D dA (to) (cc9) (by first | with_reducible assumption | omega | with_reducible rfl) (by first | with_reducible assumption | omega | with_reducible rfl)) (lw_S q1593 q1594 q120 q1595) (by decide +kernel) rfl ⟨Nat.le_of_ble_eq_true rfl, Nat.le_of_ble_eq_true rfl⟩ hl.1 (hP.sub [] rfl) rfl (Nat.le_of_ble_eq_true rfl) dX7_between_50 (Nat.zero_le _) (Nat.zero_le _) ?_
        refine z_imul C dX7_between_53 ?_
        refine z_isub C dX7_between_54 ?_
        refine lv_istore (lv' := [(4, .int (zI ((sm) - (((fl ((w * k) + cc9)) * (spn ro cc9)) * (spn to cc9))))), (0, .ref (a)), (1, .int (zI ((k : Nat) : Int))), (2, .int (zI ((ro : Nat) : Int))), (3, .int (zI ((to : Nat) : Int))), (5, .int (zI ((cc9 : Nat) : Int)))]) hx hb dX7_between_55 hl (by decide) rfl (fun ls hl => ?_)
        refine lv_iinc (v := zI ((cc9 + 1 : Nat) : Int)) (lv' := [(5, .int (zI ((cc9 + 1 : Nat) : Int))), (4, .int (zI ((sm) - (((fl ((w * k) + cc9)) * (spn ro cc9)) * (spn to cc9))))), (0, .ref (a)), (1, .int (zI ((k : Nat) : Int))), (2, .int (zI ((ro : Nat) : Int))), (3, .int (zI ((to : Nat) : Int)))]) hx hb dX7_between_57 hl (k := 5) rfl (zI_inc (by omega)) (by decide) rfl (fun ls hl => ?_)
        refine lv_goto (tgt := 6) hx hb dX7_between_60 (by decide) ?_
        exact ih6 (cc9 + 1) (((sm) - (((fl ((w * k) + cc9)) * (spn ro cc9)) * (spn to cc9)))) (by first | with_reducible assumption | omega | with_reducible rfl) (by simp only [btN]; rw [← hs]) (by omega) ls (lv_sub hl [2, 3, 4, 5, 1, 0] rfl)
  exact L6 ((w - 0) + 1) (0) (0) (by first | with_reducible assumption | omega | with_reducible rfl) rfl (by omega) ls (lv_sub hl [2, 3, 4, 5, 1, 0] rfl)
set_option maxHeartbeats 600000 in
set_option maxRecDepth 100000 in
theorem k_X8_isIn (l : Launch) (D : va_G) (dA : Nat → ClassId) (a ae sp w le rg st sd qa ql qf up dn qe : Nat) (x1 x2 x3 x4 x5 : Value) (lst : Int) (ef : Nat → Int) (y1 y2 : Value) (i : Nat) (hi : Int) (hwl : w * le ≤ 16) (hu : up < 65536) (hd : dn < 65536) (be : ∀ j, -1000 ≤ ef j ∧ ef j ≤ 1000) (hii : i < 65536) (h1 : zR hi) : zM l yX8_isIn cX8_isIn 3 (some .boolean) (zRm 3 61) D dA [.ref (a), .int (zI ((i : Nat) : Int)), .int (zI (hi))] [(a, .inr (8, [.ref (sp), .ref (ae), y1, y2])), (ae, .inr (5, [.ref (sp), .ref (qe), x1, x2, x3, x4, .int (zI (lst)), x5])), (sp, .inr (4, [.int (zI ((w : Nat) : Int)), .int (zI ((le : Nat) : Int)), .int (zI ((rg : Nat) : Int)), .int (zI ((st : Nat) : Int)), .int (zI ((sd : Nat) : Int)), .ref (qa), .ref (ql), .ref (qf), .int (zI ((up : Nat) : Int)), .int (zI ((dn : Nat) : Int))])), (qe, .inl (dA 2, 65536, .inl (fun jz => zI (ef jz))))] (some (.int (zB ((law1 w le up dn i && decide (ef i ≤ hi)))))) := by
  refine zM.of (by decide +kernel) rfl ?_
  intro pp ee ss mm args below meth cd Q C hr hlk hQ hP ls hl
  have hx := C.1.1
  have hb := C.1.2.1
  have hl : lv_has ls 3 [(0, .ref (a)), (1, .int (zI ((i : Nat) : Int))), (2, .int (zI (hi)))] := hl
  have b9 := be i
  refine lv_aload_n hx hb dX8_isIn_0 rfl (lv_at hl 0 rfl) ?_
  refine z_get C hP 0 rfl rfl in_X8 0 (by decide) q487 rfl dX8_isIn_1 ?_
  refine lv_iload_n hx hb dX8_isIn_4 rfl (lv_at hl 1 rfl) ?_
  refine z_cV (n := 1) (As := [.int (zI ((i : Nat) : Int))]) (rest := []) C hP (k_X4_isLawful l D dA (sp) (w) (le) (rg) (st) (sd) (qa) (ql) (qf) (up) (dn) (((i : Nat) : Int)) (by first | with_reducible assumption | omega | with_reducible rfl) (by first | with_reducible assumption | omega | with_reducible rfl) (by first | with_reducible assumption | omega | with_reducible rfl) (by first | with_reducible assumption | omega | with_reducible rfl)) (lw_V q1770 q989 q990 q115 q991) (by decide +kernel) rfl ⟨Nat.le_of_ble_eq_true rfl, Nat.le_of_ble_eq_true rfl⟩ hl.1 (hP.sub [2] rfl) 2 rfl rfl rfl (Nat.le_of_ble_eq_true rfl) dX8_isIn_5 (Nat.zero_le _) (Nat.zero_le _) ?_
  refine z_if_eqB (tgt := 27) C dX8_isIn_8 (by decide) (fun c_8 => ?_) (fun c_8 => ?_)
  · refine z_iconst C dX8_isIn_27 ?_
    exact z_zret0 C hlk hr hQ (by rw [lawZ_nat] at c_8; rw [c_8]; first | rfl | (rw [decide_eq_true (by omega)]; rfl) | (rw [decide_eq_false (by omega)]; rfl)) dX8_isIn_28
  · refine lv_aload_n hx hb dX8_isIn_11 rfl (lv_at hl 0 rfl) ?_
    refine z_get C hP 0 rfl rfl in_X8 1 (by decide) q488 rfl dX8_isIn_12 ?_
    refine lv_iload_n hx hb dX8_isIn_15 rfl (lv_at hl 1 rfl) ?_
    refine z_cV (n := 1) (As := [.int (zI ((i : Nat) : Int))]) (rest := []) C hP (k_X5_of l D dA (ae) (sp) (w) (le) (rg) (st) (sd) (qa) (ql) (qf) (up) (dn) (qe) (x1) (x2) (x3) (x4) (x5) ((lst)) (ef) (i) (by first | with_reducible assumption | omega | with_reducible rfl)) (lw_V q1771 q1545 q1546 q116 q1547) (by decide +kernel) rfl ⟨Nat.le_of_ble_eq_true rfl, Nat.le_of_ble_eq_true rfl⟩ hl.1 (hP.sub [1, 2, 3] rfl) 1 rfl rfl rfl (Nat.le_of_ble_eq_true rfl) dX8_isIn_16 (Nat.zero_le _) (Nat.zero_le _) ?_
    refine lv_iload_n hx hb dX8_isIn_19 rfl (lv_at hl 2 rfl) ?_
    refine z_icmp_gt (tgt := 27) C ⟨by omega, by omega⟩ ⟨by omega, by omega⟩ dX8_isIn_20 (by decide) (fun c_20 => ?_) (fun c_20 => ?_)
    · refine z_iconst C dX8_isIn_27 ?_
      exact z_zret0 C hlk hr hQ (by rw [lawZ_nat] at c_8; rw [c_8]; first | rfl | (rw [decide_eq_true (by omega)]; rfl) | (rw [decide_eq_false (by omega)]; rfl)) dX8_isIn_28
    · refine z_iconst C dX8_isIn_23 ?_
      refine lv_goto (tgt := 28) hx hb dX8_isIn_24 (by decide) ?_
      exact z_zret1 C hlk hr hQ (by rw [lawZ_nat] at c_8; rw [c_8]; first | rfl | (rw [decide_eq_true (by omega)]; rfl) | (rw [decide_eq_false (by omega)]; rfl)) dX8_isIn_28
set_option maxHeartbeats 600000 in
set_option maxRecDepth 100000 in
theorem k_X11_init (l : Launch) (D : va_G) (dA : Nat → ClassId) (a s0 : Nat) (h : Int) : zG (S := Unit) l yX11_init cX11_init 3 (none) (zRmW 1 20 0 0) D dA [.ref (a), .int (zI ((s0 : Nat) : Int)), .int (zI (h))] [(a, .inr (11, [.int (zI 0), .int (zI 0)]))] (fun _ : Unit => none) (fun _ : Unit => True) (fun _ : Unit => [(a, .inr (11, [.int (zI ((s0 : Nat) : Int)), .int (zI (h))]))]) := by
  refine zG.of (by decide +kernel) rfl ?_
  intro pp ee ss mm args below meth cd Q A C hr hlk hQ hA hin H locs hP hD hS ls hl
  have hx := C.1.1
  have hb := C.1.2.1
  have hl : lv_has ls 3 [(0, .ref (a)), (1, .int (zI ((s0 : Nat) : Int))), (2, .int (zI (h)))] := hl
  refine lv_aload_n hx hb dX11_init_0 rfl (lv_at hl 0 rfl) ?_
  refine z_obj C q1693 hl.1 (Nat.le_of_ble_eq_true rfl) (Nat.le_of_ble_eq_true rfl) dX11_init_1 ?_
  refine lv_aload_n hx hb dX11_init_4 rfl (lv_at hl 0 rfl) ?_
  refine lv_iload_n hx hb dX11_init_5 rfl (lv_at hl 1 rfl) ?_
  refine z_putF C hP hD hS 0 rfl rfl in_X11 tyX11_ok nmX11 0 (by decide) q1694 rfl hin rfl rfl rfl (Nat.le_of_ble_eq_true rfl) (ws' := [(a, .inr (11, [.int (zI ((s0 : Nat) : Int)), .int (zI 0)]))]) rfl dX11_init_6 (fun H locs hP hD hS => ?_)
  refine lv_aload_n hx hb dX11_init_9 rfl (lv_at hl 0 rfl) ?_
  refine lv_iload_n hx hb dX11_init_10 rfl (lv_at hl 2 rfl) ?_
  refine z_putF C hP hD hS 0 rfl rfl in_X11 tyX11_ok nmX11 1 (by decide) q1696 rfl hin rfl rfl rfl (Nat.le_of_ble_eq_true rfl) (ws' := [(a, .inr (11, [.int (zI ((s0 : Nat) : Int)), .int (zI (h))]))]) rfl dX11_init_11 (fun H locs hP hD hS => ?_)
  exact z_vretG C hlk hr hQ () rfl trivial (hP.sub [0] rfl) (hD.sub [0] (by decide) rfl) hS (Nat.le_of_ble_eq_true rfl) (Nat.le_of_ble_eq_true rfl) dX11_init_14
set_option maxHeartbeats 600000 in
set_option maxRecDepth 100000 in
theorem k_X11_compareTo_2 (l : Launch) (D : va_G) (dA : Nat → ClassId) (a b s1 s2 : Nat) (h1 h2 : Int) (g1 : s1 < 65536) (g2 : s2 < 65536) (g3 : zR h1) (g4 : zR h2) : zM l yX11_compareTo_2 cX11_compareTo_2 2 (some .int) (zRm 0 0) D dA [.ref (a), .ref (b)] [(a, .inr (11, [.int (zI ((s1 : Nat) : Int)), .int (zI (h1))])), (b, .inr (11, [.int (zI ((s2 : Nat) : Int)), .int (zI (h2))]))] (some (.int (zI (if h1 = h2 then (s1 : Int) - (s2 : Int) else h1 - h2)))) := by
  refine zM.of (by decide +kernel) rfl ?_
  intro pp ee ss mm args below meth cd Q C hr hlk hQ hP ls hl
  have hx := C.1.1
  have hb := C.1.2.1
  have hl : lv_has ls 2 [(0, .ref (a)), (1, .ref (b))] := hl
  refine lv_aload_n hx hb dX11_compareTo_2_0 rfl (lv_at hl 0 rfl) ?_
  refine z_get C hP 0 rfl rfl in_X11 1 (by decide) q1696 rfl dX11_compareTo_2_1 ?_
  refine lv_aload_n hx hb dX11_compareTo_2_4 rfl (lv_at hl 1 rfl) ?_
  refine z_get C hP 1 rfl rfl in_X11 1 (by decide) q1696 rfl dX11_compareTo_2_5 ?_
  refine z_icmp_eq (tgt := 23) C ⟨by omega, by omega⟩ ⟨by omega, by omega⟩ dX11_compareTo_2_8 (by decide) (fun c_8 => ?_) (fun c_8 => ?_)
  · refine lv_aload_n hx hb dX11_compareTo_2_23 rfl (lv_at hl 0 rfl) ?_
    refine z_get C hP 0 rfl rfl in_X11 0 (by decide) q1694 rfl dX11_compareTo_2_24 ?_
    refine lv_aload_n hx hb dX11_compareTo_2_27 rfl (lv_at hl 1 rfl) ?_
    refine z_get C hP 1 rfl rfl in_X11 0 (by decide) q1694 rfl dX11_compareTo_2_28 ?_
    refine z_isub C dX11_compareTo_2_31 ?_
    exact z_iret C hlk hr hQ (by first | (rw [if_pos (by omega)]; done) | (rw [if_neg (by omega)]; done)) dX11_compareTo_2_32
  · refine lv_aload_n hx hb dX11_compareTo_2_11 rfl (lv_at hl 0 rfl) ?_
    refine z_get C hP 0 rfl rfl in_X11 1 (by decide) q1696 rfl dX11_compareTo_2_12 ?_
    refine lv_aload_n hx hb dX11_compareTo_2_15 rfl (lv_at hl 1 rfl) ?_
    refine z_get C hP 1 rfl rfl in_X11 1 (by decide) q1696 rfl dX11_compareTo_2_16 ?_
    refine z_isub C dX11_compareTo_2_19 ?_
    refine lv_goto (tgt := 32) hx hb dX11_compareTo_2_20 (by decide) ?_
    exact z_iret C hlk hr hQ (by first | (rw [if_pos (by omega)]; done) | (rw [if_neg (by omega)]; done)) dX11_compareTo_2_32
