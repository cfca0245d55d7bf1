set_option maxHeartbeats 4000000 in
set_option maxRecDepth 100000 in
/-- low <= v <= high -/
theorem k_X0_isIn (l : Launch) (D : va_G) (dA : Nat → ClassId) (v lo hi : Int) (h1 : zR v) (h2 : zR lo) (h3 : zR hi) : zM l yX0_isIn cX0_isIn 3 (some .boolean) (zRm 0 0) D dA [.int (zI (v)), .int (zI (lo)), .int (zI (hi))] [] (some (.int (zB (decide (lo ≤ v ∧ v ≤ hi))))) := by
  refine zM.of (by decide +kernel) rfl ?_
  intro pp ee ss mm args below meth cd Q C hr hlk hQ hP ls hl
  have hx := C.1.1
  have hb := C.1.2.1
  have hl : lv_has ls 3 [(0, .int (zI (v))), (1, .int (zI (lo))), (2, .int (zI (hi)))] := hl
  refine lv_iload_n hx hb dX0_isIn_0 rfl (lv_at hl 0 rfl) ?_
  refine lv_iload_n hx hb dX0_isIn_1 rfl (lv_at hl 1 rfl) ?_
  refine z_icmp_lt (tgt := 14) C ⟨by omega, by omega⟩ ⟨by omega, by omega⟩ dX0_isIn_2 (by decide) (fun c_2 => ?_) (fun c_2 => ?_)
  · refine z_iconst C dX0_isIn_14 ?_
    exact z_zret0 C hlk hr hQ (by simp; omega) dX0_isIn_15
  · refine lv_iload_n hx hb dX0_isIn_5 rfl (lv_at hl 0 rfl) ?_
    refine lv_iload_n hx hb dX0_isIn_6 rfl (lv_at hl 2 rfl) ?_
    refine z_icmp_gt (tgt := 14) C ⟨by omega, by omega⟩ ⟨by omega, by omega⟩ dX0_isIn_7 (by decide) (fun c_7 => ?_) (fun c_7 => ?_)
    · refine z_iconst C dX0_isIn_14 ?_
      exact z_zret0 C hlk hr hQ (by simp; omega) dX0_isIn_15
    · refine z_iconst C dX0_isIn_10 ?_
      refine lv_goto (tgt := 15) hx hb dX0_isIn_11 (by decide) ?_
      exact z_zret1 C hlk hr hQ (by simp; omega) dX0_isIn_15
set_option maxHeartbeats 4000000 in
set_option maxRecDepth 100000 in
theorem k_X0_has (l : Launch) (D : va_G) (dA : Nat → ClassId) (s k : Nat) (h1 : s < 2147483648) (h2 : k < 32) : zM l yX0_has cX0_has 2 (some .boolean) (zRm 0 0) D dA [.int (zI ((s : Nat) : Int)), .int (zI ((k : Nat) : Int))] [] (some (.int (zB (s.testBit k)))) := by
  refine zM.of (by decide +kernel) rfl ?_
  intro pp ee ss mm args below meth cd Q C hr hlk hQ hP ls hl
  have hx := C.1.1
  have hb := C.1.2.1
  have hl : lv_has ls 2 [(0, .int (zI ((s : Nat) : Int))), (1, .int (zI ((k : Nat) : Int)))] := hl
  have hz : ((s >>> k) &&& 1 : Nat) ≤ 1 := Nat.and_le_right
  refine lv_iload_n hx hb dX0_has_0 rfl (lv_at hl 0 rfl) ?_
  refine lv_iload_n hx hb dX0_has_1 rfl (lv_at hl 1 rfl) ?_
  refine z_ishrN C (s) (k) rfl rfl (by omega) (by omega) dX0_has_2 ?_
  refine z_iconst C dX0_has_3 ?_
  refine z_iand C ((s >>> k)) (1) rfl rfl dX0_has_4 ?_
  refine z_iconst C dX0_has_5 ?_
  refine z_icmp_ne (tgt := 13) C ⟨by omega, by omega⟩ ⟨by decide, by decide⟩ dX0_has_6 (by decide) (fun c_6 => ?_) (fun c_6 => ?_)
  · refine z_iconst C dX0_has_13 ?_
    exact z_zret0 C hlk hr hQ (by cases hq : s.testBit k with | false => rfl | true => exact absurd ((tb_and1 s k).mpr hq) (by omega)) dX0_has_14
  · refine z_iconst C dX0_has_9 ?_
    refine lv_goto (tgt := 14) hx hb dX0_has_10 (by decide) ?_
    exact z_zret1 C hlk hr hQ ((tb_and1 s k).mp (by omega)) dX0_has_14
set_option maxHeartbeats 4000000 in
set_option maxRecDepth 100000 in
theorem k_X4_sites (l : Launch) (D : va_G) (dA : Nat → ClassId) (a w le rg st sd qa ql qf up dn : Nat) : zM l yX4_sites cX4_sites 1 (some .int) (zRm 0 0) D dA [.ref (a)] [(a, .inr (4, [.int (zI ((w : Nat) : Int)), .int (zI ((le : Nat) : Int)), .int (zI ((rg : Nat) : Int)), .int (zI ((st : Nat) : Int)), .int (zI ((sd : Nat) : Int)), .ref (qa), .ref (ql), .ref (qf), .int (zI ((up : Nat) : Int)), .int (zI ((dn : Nat) : Int))]))] (some (.int (zI ((w * le : Nat) : Int)))) := by
  refine zM.of (by decide +kernel) rfl ?_
  intro pp ee ss mm args below meth cd Q C hr hlk hQ hP ls hl
  have hx := C.1.1
  have hb := C.1.2.1
  have hl : lv_has ls 1 [(0, .ref (a))] := hl
  refine lv_aload_n hx hb dX4_sites_0 rfl (lv_at hl 0 rfl) ?_
  refine z_get C hP 0 rfl rfl in_X4 0 (by decide) q293 rfl dX4_sites_1 ?_
  refine lv_aload_n hx hb dX4_sites_4 rfl (lv_at hl 0 rfl) ?_
  refine z_get C hP 0 rfl rfl in_X4 1 (by decide) q297 rfl dX4_sites_5 ?_
  refine z_imulN C (w) (le) rfl rfl dX4_sites_8 ?_
  exact z_iret C hlk hr hQ (by first | rfl | omega) dX4_sites_9
set_option maxHeartbeats 4000000 in
set_option maxRecDepth 100000 in
theorem k_X4_states (l : Launch) (D : va_G) (dA : Nat → ClassId) (a w le rg st sd qa ql qf up dn : Nat) (hwl : w * le ≤ 16) : zM l yX4_states cX4_states 1 (some .int) (zRm 1 20) D dA [.ref (a)] [(a, .inr (4, [.int (zI ((w : Nat) : Int)), .int (zI ((le : Nat) : Int)), .int (zI ((rg : Nat) : Int)), .int (zI ((st : Nat) : Int)), .int (zI ((sd : Nat) : Int)), .ref (qa), .ref (ql), .ref (qf), .int (zI ((up : Nat) : Int)), .int (zI ((dn : Nat) : Int))]))] (some (.int (zI ((nst w le : Nat) : Int)))) := by
  refine zM.of (by decide +kernel) rfl ?_
  intro pp ee ss mm args below meth cd Q C hr hlk hQ hP ls hl
  have hx := C.1.1
  have hb := C.1.2.1
  have hl : lv_has ls 1 [(0, .ref (a))] := hl
  refine lv_aload_n hx hb dX4_states_0 rfl (lv_at hl 0 rfl) ?_
  refine z_cV (n := 0) (As := []) (rest := []) C hP (k_X4_sites l D dA (a) (w) (le) (rg) (st) (sd) (qa) (ql) (qf) (up) (dn)) (lw_V q781 q766 q767 q115 q768) (by decide +kernel) rfl ⟨Nat.le_of_ble_eq_true rfl, Nat.le_of_ble_eq_true rfl⟩ hl.1 (hP.sub [0] rfl) 0 rfl rfl rfl (Nat.le_of_ble_eq_true rfl) dX4_states_1 (Nat.zero_le _) (Nat.zero_le _) ?_
  refine z_if_ne (tgt := 11) C ⟨by omega, by omega⟩ dX4_states_4 (by decide) (fun c_4 => ?_) (fun c_4 => ?_)
  · refine z_iconst C dX4_states_11 ?_
    refine lv_aload_n hx hb dX4_states_12 rfl (lv_at hl 0 rfl) ?_
    refine z_cV (n := 0) (As := []) (rest := [.int (zI 1)]) C hP (k_X4_sites l D dA (a) (w) (le) (rg) (st) (sd) (qa) (ql) (qf) (up) (dn)) (lw_V q781 q766 q767 q115 q768) (by decide +kernel) rfl ⟨Nat.le_of_ble_eq_true rfl, Nat.le_of_ble_eq_true rfl⟩ hl.1 (hP.sub [0] rfl) 0 rfl rfl rfl (Nat.le_of_ble_eq_true rfl) dX4_states_13 (Nat.zero_le _) (Nat.zero_le _) ?_
    refine z_ishl1 C (w * le) rfl rfl (by omega) dX4_states_16 ?_
    exact z_iret C hlk hr hQ (by unfold nst; split <;> first | rfl | omega) dX4_states_17
  · refine z_iconst C dX4_states_7 ?_
    refine lv_goto (tgt := 17) hx hb dX4_states_8 (by decide) ?_
    exact z_iret C hlk hr hQ (by unfold nst; split <;> first | rfl | omega) dX4_states_17
set_option maxHeartbeats 4000000 in
set_option maxRecDepth 100000 in
theorem k_X4_isSite (l : Launch) (D : va_G) (dA : Nat → ClassId) (a w le rg st sd qa ql qf up dn : Nat) (k : Int) (hwl : w * le ≤ 16) (hk : zR k) : zM l yX4_isSite cX4_isSite 2 (some .boolean) (zRm 1 22) D dA [.ref (a), .int (zI (k))] [(a, .inr (4, [.int (zI ((w : Nat) : Int)), .int (zI ((le : Nat) : Int)), .int (zI ((rg : Nat) : Int)), .int (zI ((st : Nat) : Int)), .int (zI ((sd : Nat) : Int)), .ref (qa), .ref (ql), .ref (qf), .int (zI ((up : Nat) : Int)), .int (zI ((dn : Nat) : Int))]))] (some (.int (zB (decide (0 ≤ k ∧ k < ((w * le : Nat) : Int)))))) := by
  refine zM.of (by decide +kernel) rfl ?_
  intro pp ee ss mm args below meth cd Q C hr hlk hQ hP ls hl
  have hx := C.1.1
  have hb := C.1.2.1
  have hl : lv_has ls 2 [(0, .ref (a)), (1, .int (zI (k)))] := hl
  refine lv_iload_n hx hb dX4_isSite_0 rfl (lv_at hl 1 rfl) ?_
  refine z_iconst C dX4_isSite_1 ?_
  refine lv_aload_n hx hb dX4_isSite_2 rfl (lv_at hl 0 rfl) ?_
  refine z_cV (n := 0) (As := []) (rest := [.int (zI 0), .int (zI (k))]) C hP (k_X4_sites l D dA (a) (w) (le) (rg) (st) (sd) (qa) (ql) (qf) (up) (dn)) (lw_V q781 q766 q767 q115 q768) (by decide +kernel) rfl ⟨Nat.le_of_ble_eq_true rfl, Nat.le_of_ble_eq_true rfl⟩ hl.1 (hP.sub [0] rfl) 0 rfl rfl rfl (Nat.le_of_ble_eq_true rfl) dX4_isSite_3 (Nat.zero_le _) (Nat.zero_le _) ?_
  refine z_iconst C dX4_isSite_6 ?_
  refine z_isub C dX4_isSite_7 ?_
  refine z_cSN (n := 3) (As := [.int (zI (k)), .int (zI 0), .int (zI (((w * le : Nat) : Int) - 1))]) (rest := []) C (k_X0_isIn l D dA ((k)) (0) ((((w * le : Nat) : Int) - 1)) (by first | assumption | omega) (by first | assumption | omega) (by first | assumption | omega)) (List.mem_of_getElem? (i := 11) rfl) q740 q108 q739 (by decide +kernel) rfl ⟨Nat.le_of_ble_eq_true rfl, Nat.le_of_ble_eq_true rfl⟩ hl.1 (hP.sub [] rfl) rfl (Nat.le_of_ble_eq_true rfl) dX4_isSite_8 (Nat.zero_le _) (Nat.zero_le _) ?_
  exact z_zretB C hlk hr hQ (by rw [decide_eq_decide]; omega) dX4_isSite_11
set_option maxHeartbeats 4000000 in
set_option maxRecDepth 100000 in
theorem k_X4_isPinned (l : Launch) (D : va_G) (dA : Nat → ClassId) (a w le rg st sd qa ql qf up dn : Nat) (k : Nat) (hu : up < 65536) (hd : dn < 65536) (hk : k < 32) : zM l yX4_isPinned cX4_isPinned 2 (some .boolean) (zRm 1 21) D dA [.ref (a), .int (zI ((k : Nat) : Int))] [(a, .inr (4, [.int (zI ((w : Nat) : Int)), .int (zI ((le : Nat) : Int)), .int (zI ((rg : Nat) : Int)), .int (zI ((st : Nat) : Int)), .int (zI ((sd : Nat) : Int)), .ref (qa), .ref (ql), .ref (qf), .int (zI ((up : Nat) : Int)), .int (zI ((dn : Nat) : Int))]))] (some (.int (zB ((up ||| dn).testBit k)))) := by
  refine zM.of (by decide +kernel) rfl ?_
  intro pp ee ss mm args below meth cd Q C hr hlk hQ hP ls hl
  have hx := C.1.1
  have hb := C.1.2.1
  have hl : lv_has ls 2 [(0, .ref (a)), (1, .int (zI ((k : Nat) : Int)))] := hl
  have hud : (up ||| dn) < 65536 := Nat.or_lt_two_pow (n := 16) hu hd
  refine lv_aload_n hx hb dX4_isPinned_0 rfl (lv_at hl 0 rfl) ?_
  refine z_get C hP 0 rfl rfl in_X4 8 (by decide) q322 rfl dX4_isPinned_1 ?_
  refine lv_aload_n hx hb dX4_isPinned_4 rfl (lv_at hl 0 rfl) ?_
  refine z_get C hP 0 rfl rfl in_X4 9 (by decide) q326 rfl dX4_isPinned_5 ?_
  refine z_ior C (up) (dn) rfl rfl dX4_isPinned_8 ?_
  refine lv_iload_n hx hb dX4_isPinned_9 rfl (lv_at hl 1 rfl) ?_
  refine z_cSN (n := 2) (As := [.int (zI (((up ||| dn) : Nat) : Int)), .int (zI ((k : Nat) : Int))]) (rest := []) C (k_X0_has l D dA ((up ||| dn)) (k) (by first | assumption | omega) (by first | assumption | omega)) (List.mem_of_getElem? (i := 12) rfl) q789 q108 q788 (by decide +kernel) rfl ⟨Nat.le_of_ble_eq_true rfl, Nat.le_of_ble_eq_true rfl⟩ hl.1 (hP.sub [] rfl) rfl (Nat.le_of_ble_eq_true rfl) dX4_isPinned_10 (Nat.zero_le _) (Nat.zero_le _) ?_
  exact z_zretB C hlk hr hQ rfl dX4_isPinned_13
set_option maxHeartbeats 4000000 in
set_option maxRecDepth 100000 in
theorem k_X4_isLawful (l : Launch) (D : va_G) (dA : Nat → ClassId) (a w le rg st sd qa ql qf up dn : Nat) (x : Int) (hwl : w * le ≤ 16) (hx0 : zR x) (hu : up < 65536) (hd : dn < 65536) : zM l yX4_isLawful cX4_isLawful 2 (some .boolean) (zRm 2 40) D dA [.ref (a), .int (zI (x))] [(a, .inr (4, [.int (zI ((w : Nat) : Int)), .int (zI ((le : Nat) : Int)), .int (zI ((rg : Nat) : Int)), .int (zI ((st : Nat) : Int)), .int (zI ((sd : Nat) : Int)), .ref (qa), .ref (ql), .ref (qf), .int (zI ((up : Nat) : Int)), .int (zI ((dn : Nat) : Int))]))] (some (.int (zB (lawZ w le up dn x)))) := by
  refine zM.of (by decide +kernel) rfl ?_
  intro pp ee ss mm args below meth cd Q C hr hlk hQ hP ls hl
  have hx := C.1.1
  have hb := C.1.2.1
  have hl : lv_has ls 2 [(0, .ref (a)), (1, .int (zI (x)))] := hl
  have hns : nst w le ≤ 65536 := nst_le hwl
  refine lv_iload_n hx hb dX4_isLawful_0 rfl (lv_at hl 1 rfl) ?_
  refine z_iconst C dX4_isLawful_1 ?_
  refine lv_aload_n hx hb dX4_isLawful_2 rfl (lv_at hl 0 rfl) ?_
  refine z_cV (n := 0) (As := []) (rest := [.int (zI 0), .int (zI (x))]) C hP (k_X4_states l D dA (a) (w) (le) (rg) (st) (sd) (qa) (ql) (qf) (up) (dn) (by first | assumption | omega)) (lw_V q992 q960 q961 q115 q962) (by decide +kernel) rfl ⟨Nat.le_of_ble_eq_true rfl, Nat.le_of_ble_eq_true rfl⟩ hl.1 (hP.sub [0] rfl) 0 rfl rfl rfl (Nat.le_of_ble_eq_true rfl) dX4_isLawful_3 (Nat.zero_le _) (Nat.zero_le _) ?_
  refine z_iconst C dX4_isLawful_6 ?_
  refine z_isub C dX4_isLawful_7 ?_
  refine z_cSN (n := 3) (As := [.int (zI (x)), .int (zI 0), .int (zI (((nst w le : Nat) : Int) - 1))]) (rest := []) C (k_X0_isIn l D dA ((x)) (0) ((((nst w le : Nat) : Int) - 1)) (by first | assumption | omega) (by first | assumption | omega) (by first | assumption | omega)) (List.mem_of_getElem? (i := 11) rfl) q740 q108 q739 (by decide +kernel) rfl ⟨Nat.le_of_ble_eq_true rfl, Nat.le_of_ble_eq_true rfl⟩ hl.1 (hP.sub [] rfl) rfl (Nat.le_of_ble_eq_true rfl) dX4_isLawful_8 (Nat.zero_le _) (Nat.zero_le _) ?_
  refine z_if_eqB (tgt := 40) C dX4_isLawful_11 (by decide) (fun c_11 => ?_) (fun c_11 => ?_)
  · have c_11 := of_decide_eq_false c_11
    refine z_iconst C dX4_isLawful_40 ?_
    exact z_zret0 C hlk hr hQ (by first | exact lawZ_out c_11 | (rw [lawZ_nat]; unfold law1; simp only [Bool.and_eq_false_iff, decide_eq_false_iff_not]; omega)) dX4_isLawful_41
  · have c_11 := of_decide_eq_true c_11
    obtain ⟨xn, rfl⟩ : ∃ xn : Nat, x = (xn : Int) := ⟨x.toNat, by omega⟩
    have hxu : xn &&& up ≤ up := Nat.and_le_right
    have hxd : xn &&& dn ≤ dn := Nat.and_le_right
    refine lv_iload_n hx hb dX4_isLawful_14 rfl (lv_at hl 1 rfl) ?_
    refine lv_aload_n hx hb dX4_isLawful_15 rfl (lv_at hl 0 rfl) ?_
    refine z_get C hP 0 rfl rfl in_X4 8 (by decide) q322 rfl dX4_isLawful_16 ?_
    refine z_iand C (xn) (up) rfl rfl dX4_isLawful_19 ?_
    refine lv_aload_n hx hb dX4_isLawful_20 rfl (lv_at hl 0 rfl) ?_
    refine z_get C hP 0 rfl rfl in_X4 8 (by decide) q322 rfl dX4_isLawful_21 ?_
    refine z_icmp_ne (tgt := 40) C ⟨by omega, by omega⟩ ⟨by omega, by omega⟩ dX4_isLawful_24 (by decide) (fun c_24 => ?_) (fun c_24 => ?_)
    · refine z_iconst C dX4_isLawful_40 ?_
      exact z_zret0 C hlk hr hQ (by first | exact lawZ_out c_11 | (rw [lawZ_nat]; unfold law1; simp only [Bool.and_eq_false_iff, decide_eq_false_iff_not]; omega)) dX4_isLawful_41
    · refine lv_iload_n hx hb dX4_isLawful_27 rfl (lv_at hl 1 rfl) ?_
      refine lv_aload_n hx hb dX4_isLawful_28 rfl (lv_at hl 0 rfl) ?_
      refine z_get C hP 0 rfl rfl in_X4 9 (by decide) q326 rfl dX4_isLawful_29 ?_
      refine z_iand C (xn) (dn) rfl rfl dX4_isLawful_32 ?_
      refine z_if_ne (tgt := 40) C ⟨by omega, by omega⟩ dX4_isLawful_33 (by decide) (fun c_33 => ?_) (fun c_33 => ?_)
      · refine z_iconst C dX4_isLawful_40 ?_
        exact z_zret0 C hlk hr hQ (by first | exact lawZ_out c_11 | (rw [lawZ_nat]; unfold law1; simp only [Bool.and_eq_false_iff, decide_eq_false_iff_not]; omega)) dX4_isLawful_41
      · refine z_iconst C dX4_isLawful_36 ?_
        refine lv_goto (tgt := 41) hx hb dX4_isLawful_37 (by decide) ?_
        exact z_zret1 C hlk hr hQ (by rw [lawZ_nat]; unfold law1; simp only [Bool.and_eq_true, decide_eq_true_eq]; omega) dX4_isLawful_41
set_option maxHeartbeats 4000000 in
set_option maxRecDepth 100000 in
theorem k_X4_other (l : Launch) (D : va_G) (dA : Nat → ClassId) (a w le rg st sd qa ql qf up dn : Nat) (k : Nat) (al : Bool) (hwl : w * le ≤ 16) (hk : k < w * le) (hrg : rg < 2147483648) : zM l yX4_other cX4_other 5 (some .int) (zRm 1 21) D dA [.ref (a), .int (zI ((k : Nat) : Int)), .int (zB (al))] [(a, .inr (4, [.int (zI ((w : Nat) : Int)), .int (zI ((le : Nat) : Int)), .int (zI ((rg : Nat) : Int)), .int (zI ((st : Nat) : Int)), .int (zI ((sd : Nat) : Int)), .ref (qa), .ref (ql), .ref (qf), .int (zI ((up : Nat) : Int)), .int (zI ((dn : Nat) : Int))]))] (some (.int (zI (oth w le rg k al)))) := by
  refine zM.of (by decide +kernel) rfl ?_
  intro pp ee ss mm args below meth cd Q C hr hlk hQ hP ls hl
  have hx := C.1.1
  have hb := C.1.2.1
  have hl : lv_has ls 5 [(0, .ref (a)), (1, .int (zI ((k : Nat) : Int))), (2, .int (zB (al)))] := hl
  obtain ⟨g1, g2, g3, g4, g5, g6⟩ := kw_lt hk
  have g7 : w ≤ 16 := by have := Nat.le_mul_of_pos_right w g2; omega
  have g8 : le ≤ 16 := by have := Nat.le_mul_of_pos_left le g1; omega
  refine lv_iload_n hx hb dX4_other_0 rfl (lv_at hl 1 rfl) ?_
  refine lv_aload_n hx hb dX4_other_1 rfl (lv_at hl 0 rfl) ?_
  refine z_get C hP 0 rfl rfl in_X4 0 (by decide) q293 rfl dX4_other_2 ?_
  refine z_idivN C (k) (w) rfl rfl (by omega) ⟨by omega, by omega⟩ dX4_other_5 ?_
  refine z_nmN (fun rw_1 e_rw_1 => ?_)
  refine lv_istore_n (lv' := [(3, .int (zI ((rw_1 : Nat) : Int))), (0, .ref (a)), (1, .int (zI ((k : Nat) : Int))), (2, .int (zB (al)))]) hx hb dX4_other_6 rfl hl (by decide) rfl (fun ls hl => ?_)
  refine lv_iload_n hx hb dX4_other_7 rfl (lv_at hl 2 rfl) ?_
  refine lv_aload_n hx hb dX4_other_8 rfl (lv_at hl 1 rfl) ?_
  refine z_get C hP 0 rfl rfl in_X4 0 (by decide) q293 rfl dX4_other_9 ?_
  refine z_iremN C (k) (w) rfl rfl (by omega) ⟨by omega, by omega⟩ dX4_other_12 ?_
  refine z_nmN (fun cl_2 e_cl_2 => ?_)
  refine lv_istore (lv' := [(4, .int (zI ((cl_2 : Nat) : Int))), (3, .int (zI ((rw_1 : Nat) : Int))), (0, .ref (a)), (1, .int (zI ((k : Nat) : Int))), (2, .int (zB (al)))]) hx hb dX4_other_13 hl (by decide) rfl (fun ls hl => ?_)
  have hrw : rw_1 ≤ k := by rw [e_rw_1]; exact Nat.div_le_self _ _
  have hcl : cl_2 < w := by rw [e_cl_2]; exact g4
  clear g3 g4 g5 g6
  refine lv_iload_n hx hb dX4_other_15 rfl (lv_at hl 4 rfl) ?_
  refine z_if_eqB (tgt := 64) C dX4_other_16 (by decide) (fun c_16 => ?_) (fun c_16 => ?_)
  · refine lv_iload hx hb dX4_other_64 (lv_at hl 0 rfl) ?_
    refine z_iconst C dX4_other_66 ?_
    refine z_iaddN C (cl_2) (1) rfl rfl dX4_other_67 ?_
    refine lv_aload_n hx hb dX4_other_68 rfl (lv_at hl 2 rfl) ?_
    refine z_get C hP 0 rfl rfl in_X4 0 (by decide) q293 rfl dX4_other_69 ?_
    refine z_icmp_ge (tgt := 81) C ⟨by omega, by omega⟩ ⟨by omega, by omega⟩ dX4_other_72 (by decide) (fun c_72 => ?_) (fun c_72 => ?_)
    · refine lv_aload_n hx hb dX4_other_81 rfl (lv_at hl 2 rfl) ?_
      refine z_get C hP 0 rfl rfl in_X4 2 (by decide) q301 rfl dX4_other_82 ?_
      refine z_iconst C dX4_other_85 ?_
      refine z_cSN (n := 2) (As := [.int (zI ((rg : Nat) : Int)), .int (zI 0)]) (rest := []) C (k_X0_has l D dA (rg) (0) (by first | assumption | omega) (by first | assumption | omega)) (List.mem_of_getElem? (i := 12) rfl) q789 q108 q788 (by decide +kernel) rfl ⟨Nat.le_of_ble_eq_true rfl, Nat.le_of_ble_eq_true rfl⟩ hl.1 (hP.sub [] rfl) rfl (Nat.le_of_ble_eq_true rfl) dX4_other_86 (Nat.zero_le _) (Nat.zero_le _) ?_
      refine z_if_eqB (tgt := 109) C dX4_other_89 (by decide) (fun c_89 => ?_) (fun c_89 => ?_)
      · refine z_iconst C dX4_other_109 ?_
        exact z_iret C hlk hr hQ (by subst c_16; first | (rw [oth_1 (by omega)]; done) | (rw [oth_2 (by omega) (by assumption) (by omega)]; done) | (rw [oth_2 (by omega) (by assumption) (by omega), e_cl_2]; done) | (rw [oth_2 (by omega) (by assumption) (by omega), e_rw_1]; done) | (rw [oth_3 (by omega) (by assumption)]; done) | (rw [oth_4 (by omega) (by omega)]; done) | (rw [oth_5 (by omega)]; done) | (rw [oth_6 (by omega) (by assumption) (by omega)]; done) | (rw [oth_6 (by omega) (by assumption) (by omega), e_cl_2]; done) | (rw [oth_6 (by omega) (by assumption) (by omega), e_rw_1]; done) | (rw [oth_7 (by omega) (by assumption)]; done) | (rw [oth_8 (by omega) (by omega)]; done)) dX4_other_110
      · refine lv_aload_n hx hb dX4_other_92 rfl (lv_at hl 2 rfl) ?_
        refine z_get C hP 0 rfl rfl in_X4 0 (by decide) q293 rfl dX4_other_93 ?_
        refine z_iconst C dX4_other_96 ?_
        refine z_icmp_le (tgt := 109) C ⟨by omega, by omega⟩ ⟨by decide, by decide⟩ dX4_other_97 (by decide) (fun c_97 => ?_) (fun c_97 => ?_)
        · refine z_iconst C dX4_other_109 ?_
          exact z_iret C hlk hr hQ (by subst c_16; first | (rw [oth_1 (by omega)]; done) | (rw [oth_2 (by omega) (by assumption) (by omega)]; done) | (rw [oth_2 (by omega) (by assumption) (by omega), e_cl_2]; done) | (rw [oth_2 (by omega) (by assumption) (by omega), e_rw_1]; done) | (rw [oth_3 (by omega) (by assumption)]; done) | (rw [oth_4 (by omega) (by omega)]; done) | (rw [oth_5 (by omega)]; done) | (rw [oth_6 (by omega) (by assumption) (by omega)]; done) | (rw [oth_6 (by omega) (by assumption) (by omega), e_cl_2]; done) | (rw [oth_6 (by omega) (by assumption) (by omega), e_rw_1]; done) | (rw [oth_7 (by omega) (by assumption)]; done) | (rw [oth_8 (by omega) (by omega)]; done)) dX4_other_110
        · refine lv_iload_n hx hb dX4_other_100 rfl (lv_at hl 1 rfl) ?_
          refine lv_aload_n hx hb dX4_other_101 rfl (lv_at hl 2 rfl) ?_
          refine z_get C hP 0 rfl rfl in_X4 0 (by decide) q293 rfl dX4_other_102 ?_
          have hrm : rw_1 * w ≤ k := by rw [e_rw_1]; exact Nat.div_mul_le_self _ _
          refine z_imulN C (rw_1) (w) rfl rfl dX4_other_105 ?_
          refine lv_goto (tgt := 110) hx hb dX4_other_106 (by decide) ?_
          exact z_iret C hlk hr hQ (by subst c_16; first | (rw [oth_1 (by omega)]; done) | (rw [oth_2 (by omega) (by assumption) (by omega)]; done) | (rw [oth_2 (by omega) (by assumption) (by omega), e_cl_2]; done) | (rw [oth_2 (by omega) (by assumption) (by omega), e_rw_1]; done) | (rw [oth_3 (by omega) (by assumption)]; done) | (rw [oth_4 (by omega) (by omega)]; done) | (rw [oth_5 (by omega)]; done) | (rw [oth_6 (by omega) (by assumption) (by omega)]; done) | (rw [oth_6 (by omega) (by assumption) (by omega), e_cl_2]; done) | (rw [oth_6 (by omega) (by assumption) (by omega), e_rw_1]; done) | (rw [oth_7 (by omega) (by assumption)]; done) | (rw [oth_8 (by omega) (by omega)]; done)) dX4_other_110
    · refine lv_iload_n hx hb dX4_other_75 rfl (lv_at hl 3 rfl) ?_
      refine z_iconst C dX4_other_76 ?_
      refine z_iaddN C (k) (1) rfl rfl dX4_other_77 ?_
      refine lv_goto (tgt := 110) hx hb dX4_other_78 (by decide) ?_
      exact z_iret C hlk hr hQ (by subst c_16; first | (rw [oth_1 (by omega)]; done) | (rw [oth_2 (by omega) (by assumption) (by omega)]; done) | (rw [oth_2 (by omega) (by assumption) (by omega), e_cl_2]; done) | (rw [oth_2 (by omega) (by assumption) (by omega), e_rw_1]; done) | (rw [oth_3 (by omega) (by assumption)]; done) | (rw [oth_4 (by omega) (by omega)]; done) | (rw [oth_5 (by omega)]; done) | (rw [oth_6 (by omega) (by assumption) (by omega)]; done) | (rw [oth_6 (by omega) (by assumption) (by omega), e_cl_2]; done) | (rw [oth_6 (by omega) (by assumption) (by omega), e_rw_1]; done) | (rw [oth_7 (by omega) (by assumption)]; done) | (rw [oth_8 (by omega) (by omega)]; done)) dX4_other_110
  · refine lv_iload_n hx hb dX4_other_19 rfl (lv_at hl 1 rfl) ?_
    refine z_iconst C dX4_other_20 ?_
    refine z_iaddN C (rw_1) (1) rfl rfl dX4_other_21 ?_
    refine lv_aload_n hx hb dX4_other_22 rfl (lv_at hl 2 rfl) ?_
    refine z_get C hP 0 rfl rfl in_X4 1 (by decide) q297 rfl dX4_other_23 ?_
    refine z_icmp_ge (tgt := 38) C ⟨by omega, by omega⟩ ⟨by omega, by omega⟩ dX4_other_26 (by decide) (fun c_26 => ?_) (fun c_26 => ?_)
    · refine lv_aload_n hx hb dX4_other_38 rfl (lv_at hl 2 rfl) ?_
      refine z_get C hP 0 rfl rfl in_X4 2 (by decide) q301 rfl dX4_other_39 ?_
      refine z_iconst C dX4_other_42 ?_
      refine z_cSN (n := 2) (As := [.int (zI ((rg : Nat) : Int)), .int (zI 1)]) (rest := []) C (k_X0_has l D dA (rg) (1) (by first | assumption | omega) (by first | assumption | omega)) (List.mem_of_getElem? (i := 12) rfl) q789 q108 q788 (by decide +kernel) rfl ⟨Nat.le_of_ble_eq_true rfl, Nat.le_of_ble_eq_true rfl⟩ hl.1 (hP.sub [] rfl) rfl (Nat.le_of_ble_eq_true rfl) dX4_other_43 (Nat.zero_le _) (Nat.zero_le _) ?_
      refine z_if_eqB (tgt := 62) C dX4_other_46 (by decide) (fun c_46 => ?_) (fun c_46 => ?_)
      · refine z_iconst C dX4_other_62 ?_
        exact z_iret C hlk hr hQ (by subst c_16; first | (rw [oth_1 (by omega)]; done) | (rw [oth_2 (by omega) (by assumption) (by omega)]; done) | (rw [oth_2 (by omega) (by assumption) (by omega), e_cl_2]; done) | (rw [oth_2 (by omega) (by assumption) (by omega), e_rw_1]; done) | (rw [oth_3 (by omega) (by assumption)]; done) | (rw [oth_4 (by omega) (by omega)]; done) | (rw [oth_5 (by omega)]; done) | (rw [oth_6 (by omega) (by assumption) (by omega)]; done) | (rw [oth_6 (by omega) (by assumption) (by omega), e_cl_2]; done) | (rw [oth_6 (by omega) (by assumption) (by omega), e_rw_1]; done) | (rw [oth_7 (by omega) (by assumption)]; done) | (rw [oth_8 (by omega) (by omega)]; done)) dX4_other_63
      · refine lv_aload_n hx hb dX4_other_49 rfl (lv_at hl 2 rfl) ?_
        refine z_get C hP 0 rfl rfl in_X4 1 (by decide) q297 rfl dX4_other_50 ?_
        refine z_iconst C dX4_other_53 ?_
        refine z_icmp_le (tgt := 62) C ⟨by omega, by omega⟩ ⟨by decide, by decide⟩ dX4_other_54 (by decide) (fun c_54 => ?_) (fun c_54 => ?_)
        · refine z_iconst C dX4_other_62 ?_
          exact z_iret C hlk hr hQ (by subst c_16; first | (rw [oth_1 (by omega)]; done) | (rw [oth_2 (by omega) (by assumption) (by omega)]; done) | (rw [oth_2 (by omega) (by assumption) (by omega), e_cl_2]; done) | (rw [oth_2 (by omega) (by assumption) (by omega), e_rw_1]; done) | (rw [oth_3 (by omega) (by assumption)]; done) | (rw [oth_4 (by omega) (by omega)]; done) | (rw [oth_5 (by omega)]; done) | (rw [oth_6 (by omega) (by assumption) (by omega)]; done) | (rw [oth_6 (by omega) (by assumption) (by omega), e_cl_2]; done) | (rw [oth_6 (by omega) (by assumption) (by omega), e_rw_1]; done) | (rw [oth_7 (by omega) (by assumption)]; done) | (rw [oth_8 (by omega) (by omega)]; done)) dX4_other_63
        · refine lv_iload hx hb dX4_other_57 (lv_at hl 0 rfl) ?_
          refine lv_goto (tgt := 63) hx hb dX4_other_59 (by decide) ?_
          exact z_iret C hlk hr hQ (by subst c_16; first | (rw [oth_1 (by omega)]; done) | (rw [oth_2 (by omega) (by assumption) (by omega)]; done) | (rw [oth_2 (by omega) (by assumption) (by omega), e_cl_2]; done) | (rw [oth_2 (by omega) (by assumption) (by omega), e_rw_1]; done) | (rw [oth_3 (by omega) (by assumption)]; done) | (rw [oth_4 (by omega) (by omega)]; done) | (rw [oth_5 (by omega)]; done) | (rw [oth_6 (by omega) (by assumption) (by omega)]; done) | (rw [oth_6 (by omega) (by assumption) (by omega), e_cl_2]; done) | (rw [oth_6 (by omega) (by assumption) (by omega), e_rw_1]; done) | (rw [oth_7 (by omega) (by assumption)]; done) | (rw [oth_8 (by omega) (by omega)]; done)) dX4_other_63
    · refine lv_iload_n hx hb dX4_other_29 rfl (lv_at hl 3 rfl) ?_
      refine lv_aload_n hx hb dX4_other_30 rfl (lv_at hl 2 rfl) ?_
      refine z_get C hP 0 rfl rfl in_X4 0 (by decide) q293 rfl dX4_other_31 ?_
      refine z_iaddN C (k) (w) rfl rfl dX4_other_34 ?_
      refine lv_goto (tgt := 63) hx hb dX4_other_35 (by decide) ?_
      exact z_iret C hlk hr hQ (by subst c_16; first | (rw [oth_1 (by omega)]; done) | (rw [oth_2 (by omega) (by assumption) (by omega)]; done) | (rw [oth_2 (by omega) (by assumption) (by omega), e_cl_2]; done) | (rw [oth_2 (by omega) (by assumption) (by omega), e_rw_1]; done) | (rw [oth_3 (by omega) (by assumption)]; done) | (rw [oth_4 (by omega) (by omega)]; done) | (rw [oth_5 (by omega)]; done) | (rw [oth_6 (by omega) (by assumption) (by omega)]; done) | (rw [oth_6 (by omega) (by assumption) (by omega), e_cl_2]; done) | (rw [oth_6 (by omega) (by assumption) (by omega), e_rw_1]; done) | (rw [oth_7 (by omega) (by assumption)]; done) | (rw [oth_8 (by omega) (by omega)]; done)) dX4_other_63
set_option maxHeartbeats 4000000 in
set_option maxRecDepth 100000 in
theorem k_X4_j (l : Launch) (D : va_G) (dA : Nat → ClassId) (a w le rg st sd qa ql qf up dn : Nat) (fa fl : Nat → Int) (k : Nat) (al : Bool) (hk : k < 16) : zM l yX4_j cX4_j 3 (some .int) (zRm 0 0) D dA [.ref (a), .int (zI ((k : Nat) : Int)), .int (zB (al))] [(a, .inr (4, [.int (zI ((w : Nat) : Int)), .int (zI ((le : Nat) : Int)), .int (zI ((rg : Nat) : Int)), .int (zI ((st : Nat) : Int)), .int (zI ((sd : Nat) : Int)), .ref (qa), .ref (ql), .ref (qf), .int (zI ((up : Nat) : Int)), .int (zI ((dn : Nat) : Int))])), (qa, .inl (dA 3, 16, .inl (fun j => zI (fa j)))), (ql, .inl (dA 3, 16, .inl (fun j => zI (fl j))))] (some (.int (zI (jw fa fl k al)))) := by
  refine zM.of (by decide +kernel) rfl ?_
  intro pp ee ss mm args below meth cd Q C hr hlk hQ hP ls hl
  have hx := C.1.1
  have hb := C.1.2.1
  have hl : lv_has ls 3 [(0, .ref (a)), (1, .int (zI ((k : Nat) : Int))), (2, .int (zB (al)))] := hl
  refine lv_iload_n hx hb dX4_j_0 rfl (lv_at hl 2 rfl) ?_
  refine z_if_eqB (tgt := 13) C dX4_j_1 (by decide) (fun c_1 => ?_) (fun c_1 => ?_)
  · refine lv_aload_n hx hb dX4_j_13 rfl (lv_at hl 0 rfl) ?_
    refine z_get C hP 0 rfl rfl in_X4 5 (by decide) q311 rfl dX4_j_14 ?_
    refine lv_iload_n hx hb dX4_j_17 rfl (lv_at hl 1 rfl) ?_
    refine z_iald C hP 1 rfl (k) rfl (by omega) (by decide) dX4_j_18 ?_
    exact z_iret C hlk hr hQ (by unfold jw; subst c_1; simp) dX4_j_19
  · refine lv_aload_n hx hb dX4_j_4 rfl (lv_at hl 0 rfl) ?_
    refine z_get C hP 0 rfl rfl in_X4 6 (by decide) q314 rfl dX4_j_5 ?_
    refine lv_iload_n hx hb dX4_j_8 rfl (lv_at hl 1 rfl) ?_
    refine z_iald C hP 2 rfl (k) rfl (by omega) (by decide) dX4_j_9 ?_
    refine lv_goto (tgt := 19) hx hb dX4_j_10 (by decide) ?_
    exact z_iret C hlk hr hQ (by unfold jw; subst c_1; simp) dX4_j_19
set_option maxHeartbeats 4000000 in
set_option maxRecDepth 100000 in
theorem k_X4_spin (l : Launch) (D : va_G) (dA : Nat → ClassId) (st k : Nat) (hs : st < 2147483648) (hk : k < 32) : zM l yX4_spin cX4_spin 2 (some .int) (zRm 1 21) D dA [.int (zI ((st : Nat) : Int)), .int (zI ((k : Nat) : Int))] [] (some (.int (zI (spn st k)))) := by
  refine zM.of (by decide +kernel) rfl ?_
  intro pp ee ss mm args below meth cd Q C hr hlk hQ hP ls hl
  have hx := C.1.1
  have hb := C.1.2.1
  have hl : lv_has ls 2 [(0, .int (zI ((st : Nat) : Int))), (1, .int (zI ((k : Nat) : Int)))] := hl
  refine lv_iload_n hx hb dX4_spin_0 rfl (lv_at hl 0 rfl) ?_
  refine lv_iload_n hx hb dX4_spin_1 rfl (lv_at hl 1 rfl) ?_
  refine z_cSN (n := 2) (As := [.int (zI ((st : Nat) : Int)), .int (zI ((k : Nat) : Int))]) (rest := []) C (k_X0_has l D dA (st) (k) (by first | assumption | omega) (by first | assumption | omega)) (List.mem_of_getElem? (i := 12) rfl) q789 q108 q788 (by decide +kernel) rfl ⟨Nat.le_of_ble_eq_true rfl, Nat.le_of_ble_eq_true rfl⟩ hl.1 (hP.sub [] rfl) rfl (Nat.le_of_ble_eq_true rfl) dX4_spin_2 (Nat.zero_le _) (Nat.zero_le _) ?_
  refine z_if_eqB (tgt := 12) C dX4_spin_5 (by decide) (fun c_5 => ?_) (fun c_5 => ?_)
  · refine z_iconst C dX4_spin_12 ?_
    exact z_iret C hlk hr hQ (by unfold spn; rw [c_5]; simp) dX4_spin_13
  · refine z_iconst C dX4_spin_8 ?_
    refine lv_goto (tgt := 13) hx hb dX4_spin_9 (by decide) ?_
    exact z_iret C hlk hr hQ (by unfold spn; rw [c_5]; simp) dX4_spin_13
set_option maxHeartbeats 4000000 in
set_option maxRecDepth 100000 in
theorem k_X4_ahead (l : Launch) (D : va_G) (dA : Nat → ClassId) (a w le rg st sd qa ql qf up dn : Nat) (k : Nat) (al : Bool) (hwl : w * le ≤ 16) (hk : k < w * le) (hrg : rg < 2147483648) : zM l yX4_ahead cX4_ahead 5 (some .int) (zRm 1 21) D dA [.ref (a), .int (zI ((k : Nat) : Int)), .int (zB (al))] [(a, .inr (4, [.int (zI ((w : Nat) : Int)), .int (zI ((le : Nat) : Int)), .int (zI ((rg : Nat) : Int)), .int (zI ((st : Nat) : Int)), .int (zI ((sd : Nat) : Int)), .ref (qa), .ref (ql), .ref (qf), .int (zI ((up : Nat) : Int)), .int (zI ((dn : Nat) : Int))]))] (some (.int (zI (ahd w le rg k al)))) := by
  refine zM.of (by decide +kernel) rfl ?_
  intro pp ee ss mm args below meth cd Q C hr hlk hQ hP ls hl
  have hx := C.1.1
  have hb := C.1.2.1
  have hl : lv_has ls 5 [(0, .ref (a)), (1, .int (zI ((k : Nat) : Int))), (2, .int (zB (al)))] := hl
  obtain ⟨g1, g2, g3, g4, g5, g6⟩ := kw_lt hk
  have g7 : w ≤ 16 := by have := Nat.le_mul_of_pos_right w g2; omega
  have g8 : le ≤ 16 := by have := Nat.le_mul_of_pos_left le g1; omega
  have g9 : w * (le - 1) ≤ 16 := by have := Nat.mul_le_mul_left w (Nat.sub_le le 1); omega
  refine lv_iload_n hx hb dX4_ahead_0 rfl (lv_at hl 1 rfl) ?_
  refine lv_aload_n hx hb dX4_ahead_1 rfl (lv_at hl 0 rfl) ?_
  refine z_get C hP 0 rfl rfl in_X4 0 (by decide) q293 rfl dX4_ahead_2 ?_
  refine z_idivN C (k) (w) rfl rfl (by omega) ⟨by omega, by omega⟩ dX4_ahead_5 ?_
  refine z_nmN (fun rw_1 e_rw_1 => ?_)
  refine lv_istore_n (lv' := [(3, .int (zI ((rw_1 : Nat) : Int))), (0, .ref (a)), (1, .int (zI ((k : Nat) : Int))), (2, .int (zB (al)))]) hx hb dX4_ahead_6 rfl hl (by decide) rfl (fun ls hl => ?_)
  refine lv_iload_n hx hb dX4_ahead_7 rfl (lv_at hl 2 rfl) ?_
  refine lv_aload_n hx hb dX4_ahead_8 rfl (lv_at hl 1 rfl) ?_
  refine z_get C hP 0 rfl rfl in_X4 0 (by decide) q293 rfl dX4_ahead_9 ?_
  refine z_iremN C (k) (w) rfl rfl (by omega) ⟨by omega, by omega⟩ dX4_ahead_12 ?_
  refine z_nmN (fun cl_2 e_cl_2 => ?_)
  refine lv_istore (lv' := [(4, .int (zI ((cl_2 : Nat) : Int))), (3, .int (zI ((rw_1 : Nat) : Int))), (0, .ref (a)), (1, .int (zI ((k : Nat) : Int))), (2, .int (zB (al)))]) hx hb dX4_ahead_13 hl (by decide) rfl (fun ls hl => ?_)
  have hrw : rw_1 ≤ k := by rw [e_rw_1]; exact Nat.div_le_self _ _
  have hcl : cl_2 < w := by rw [e_cl_2]; exact g4
  clear g3 g4 g5 g6
  refine lv_iload_n hx hb dX4_ahead_15 rfl (lv_at hl 4 rfl) ?_
  refine z_if_eqB (tgt := 69) C dX4_ahead_16 (by decide) (fun c_16 => ?_) (fun c_16 => ?_)
  · refine lv_iload hx hb dX4_ahead_69 (lv_at hl 0 rfl) ?_
    refine z_if_le (tgt := 80) C ⟨by omega, by omega⟩ dX4_ahead_71 (by decide) (fun c_71 => ?_) (fun c_71 => ?_)
    · refine lv_aload_n hx hb dX4_ahead_80 rfl (lv_at hl 2 rfl) ?_
      refine z_get C hP 0 rfl rfl in_X4 2 (by decide) q301 rfl dX4_ahead_81 ?_
      refine z_iconst C dX4_ahead_84 ?_
      refine z_cSN (n := 2) (As := [.int (zI ((rg : Nat) : Int)), .int (zI 0)]) (rest := []) C (k_X0_has l D dA (rg) (0) (by first | assumption | omega) (by first | assumption | omega)) (List.mem_of_getElem? (i := 12) rfl) q789 q108 q788 (by decide +kernel) rfl ⟨Nat.le_of_ble_eq_true rfl, Nat.le_of_ble_eq_true rfl⟩ hl.1 (hP.sub [] rfl) rfl (Nat.le_of_ble_eq_true rfl) dX4_ahead_85 (Nat.zero_le _) (Nat.zero_le _) ?_
      refine z_if_eqB (tgt := 110) C dX4_ahead_88 (by decide) (fun c_88 => ?_) (fun c_88 => ?_)
      · refine z_iconst C dX4_ahead_110 ?_
        exact z_iret C hlk hr hQ (by subst c_16; first | (rw [ahd_1 (by omega)]; done) | (rw [ahd_2 (by omega) (by assumption) (by omega)]; done) | (rw [ahd_3 (by omega) (by assumption)]; done) | (rw [ahd_4 (by omega) (by omega)]; done) | (rw [ahd_5 (by omega)]; done) | (rw [ahd_6 (by omega) (by assumption) (by omega)]; done) | (rw [ahd_7 (by omega) (by assumption)]; done) | (rw [ahd_8 (by omega) (by omega)]; done)) dX4_ahead_111
      · refine lv_aload_n hx hb dX4_ahead_91 rfl (lv_at hl 2 rfl) ?_
        refine z_get C hP 0 rfl rfl in_X4 0 (by decide) q293 rfl dX4_ahead_92 ?_
        refine z_iconst C dX4_ahead_95 ?_
        refine z_icmp_le (tgt := 110) C ⟨by omega, by omega⟩ ⟨by decide, by decide⟩ dX4_ahead_96 (by decide) (fun c_96 => ?_) (fun c_96 => ?_)
        · refine z_iconst C dX4_ahead_110 ?_
          exact z_iret C hlk hr hQ (by subst c_16; first | (rw [ahd_1 (by omega)]; done) | (rw [ahd_2 (by omega) (by assumption) (by omega)]; done) | (rw [ahd_3 (by omega) (by assumption)]; done) | (rw [ahd_4 (by omega) (by omega)]; done) | (rw [ahd_5 (by omega)]; done) | (rw [ahd_6 (by omega) (by assumption) (by omega)]; done) | (rw [ahd_7 (by omega) (by assumption)]; done) | (rw [ahd_8 (by omega) (by omega)]; done)) dX4_ahead_111
        · refine lv_iload_n hx hb dX4_ahead_99 rfl (lv_at hl 3 rfl) ?_
          refine lv_aload_n hx hb dX4_ahead_100 rfl (lv_at hl 2 rfl) ?_
          refine z_get C hP 0 rfl rfl in_X4 0 (by decide) q293 rfl dX4_ahead_101 ?_
          refine z_iaddN C (k) (w) rfl rfl dX4_ahead_104 ?_
          refine z_iconst C dX4_ahead_105 ?_
          refine z_isubN C ((k + w)) (1) rfl rfl (by omega) dX4_ahead_106 ?_
          refine lv_goto (tgt := 111) hx hb dX4_ahead_107 (by decide) ?_
          exact z_iret C hlk hr hQ (by subst c_16; first | (rw [ahd_1 (by omega)]; done) | (rw [ahd_2 (by omega) (by assumption) (by omega)]; done) | (rw [ahd_3 (by omega) (by assumption)]; done) | (rw [ahd_4 (by omega) (by omega)]; done) | (rw [ahd_5 (by omega)]; done) | (rw [ahd_6 (by omega) (by assumption) (by omega)]; done) | (rw [ahd_7 (by omega) (by assumption)]; done) | (rw [ahd_8 (by omega) (by omega)]; done)) dX4_ahead_111
    · refine lv_iload_n hx hb dX4_ahead_74 rfl (lv_at hl 3 rfl) ?_
      refine z_iconst C dX4_ahead_75 ?_
      refine z_isub C dX4_ahead_76 ?_
      refine lv_goto (tgt := 111) hx hb dX4_ahead_77 (by decide) ?_
      exact z_iret C hlk hr hQ (by subst c_16; first | (rw [ahd_1 (by omega)]; done) | (rw [ahd_2 (by omega) (by assumption) (by omega)]; done) | (rw [ahd_3 (by omega) (by assumption)]; done) | (rw [ahd_4 (by omega) (by omega)]; done) | (rw [ahd_5 (by omega)]; done) | (rw [ahd_6 (by omega) (by assumption) (by omega)]; done) | (rw [ahd_7 (by omega) (by assumption)]; done) | (rw [ahd_8 (by omega) (by omega)]; done)) dX4_ahead_111
  · refine lv_iload_n hx hb dX4_ahead_19 rfl (lv_at hl 1 rfl) ?_
    refine z_if_le (tgt := 32) C ⟨by omega, by omega⟩ dX4_ahead_20 (by decide) (fun c_20 => ?_) (fun c_20 => ?_)
    · refine lv_aload_n hx hb dX4_ahead_32 rfl (lv_at hl 2 rfl) ?_
      refine z_get C hP 0 rfl rfl in_X4 2 (by decide) q301 rfl dX4_ahead_33 ?_
      refine z_iconst C dX4_ahead_36 ?_
      refine z_cSN (n := 2) (As := [.int (zI ((rg : Nat) : Int)), .int (zI 1)]) (rest := []) C (k_X0_has l D dA (rg) (1) (by first | assumption | omega) (by first | assumption | omega)) (List.mem_of_getElem? (i := 12) rfl) q789 q108 q788 (by decide +kernel) rfl ⟨Nat.le_of_ble_eq_true rfl, Nat.le_of_ble_eq_true rfl⟩ hl.1 (hP.sub [] rfl) rfl (Nat.le_of_ble_eq_true rfl) dX4_ahead_37 (Nat.zero_le _) (Nat.zero_le _) ?_
      refine z_if_eqB (tgt := 67) C dX4_ahead_40 (by decide) (fun c_40 => ?_) (fun c_40 => ?_)
      · refine z_iconst C dX4_ahead_67 ?_
        exact z_iret C hlk hr hQ (by subst c_16; first | (rw [ahd_1 (by omega)]; done) | (rw [ahd_2 (by omega) (by assumption) (by omega)]; done) | (rw [ahd_3 (by omega) (by assumption)]; done) | (rw [ahd_4 (by omega) (by omega)]; done) | (rw [ahd_5 (by omega)]; done) | (rw [ahd_6 (by omega) (by assumption) (by omega)]; done) | (rw [ahd_7 (by omega) (by assumption)]; done) | (rw [ahd_8 (by omega) (by omega)]; done)) dX4_ahead_68
      · refine lv_aload_n hx hb dX4_ahead_43 rfl (lv_at hl 2 rfl) ?_
        refine z_get C hP 0 rfl rfl in_X4 1 (by decide) q297 rfl dX4_ahead_44 ?_
        refine z_iconst C dX4_ahead_47 ?_
        refine z_icmp_le (tgt := 67) C ⟨by omega, by omega⟩ ⟨by decide, by decide⟩ dX4_ahead_48 (by decide) (fun c_48 => ?_) (fun c_48 => ?_)
        · refine z_iconst C dX4_ahead_67 ?_
          exact z_iret C hlk hr hQ (by subst c_16; first | (rw [ahd_1 (by omega)]; done) | (rw [ahd_2 (by omega) (by assumption) (by omega)]; done) | (rw [ahd_3 (by omega) (by assumption)]; done) | (rw [ahd_4 (by omega) (by omega)]; done) | (rw [ahd_5 (by omega)]; done) | (rw [ahd_6 (by omega) (by assumption) (by omega)]; done) | (rw [ahd_7 (by omega) (by assumption)]; done) | (rw [ahd_8 (by omega) (by omega)]; done)) dX4_ahead_68
        · refine lv_iload_n hx hb dX4_ahead_51 rfl (lv_at hl 3 rfl) ?_
          refine lv_aload_n hx hb dX4_ahead_52 rfl (lv_at hl 2 rfl) ?_
          refine z_get C hP 0 rfl rfl in_X4 0 (by decide) q293 rfl dX4_ahead_53 ?_
          refine lv_aload_n hx hb dX4_ahead_56 rfl (lv_at hl 2 rfl) ?_
          refine z_get C hP 0 rfl rfl in_X4 1 (by decide) q297 rfl dX4_ahead_57 ?_
          refine z_iconst C dX4_ahead_60 ?_
          refine z_isubN C (le) (1) rfl rfl (by omega) dX4_ahead_61 ?_
          refine z_imulN C (w) ((le - 1)) rfl rfl dX4_ahead_62 ?_
          refine z_iaddN C (k) ((w * (le - 1))) rfl rfl dX4_ahead_63 ?_
          refine lv_goto (tgt := 68) hx hb dX4_ahead_64 (by decide) ?_
          exact z_iret C hlk hr hQ (by subst c_16; first | (rw [ahd_1 (by omega)]; done) | (rw [ahd_2 (by omega) (by assumption) (by omega)]; done) | (rw [ahd_3 (by omega) (by assumption)]; done) | (rw [ahd_4 (by omega) (by omega)]; done) | (rw [ahd_5 (by omega)]; done) | (rw [ahd_6 (by omega) (by assumption) (by omega)]; done) | (rw [ahd_7 (by omega) (by assumption)]; done) | (rw [ahd_8 (by omega) (by omega)]; done)) dX4_ahead_68
    · refine lv_iload_n hx hb dX4_ahead_23 rfl (lv_at hl 3 rfl) ?_
      refine lv_aload_n hx hb dX4_ahead_24 rfl (lv_at hl 2 rfl) ?_
      refine z_get C hP 0 rfl rfl in_X4 0 (by decide) q293 rfl dX4_ahead_25 ?_
      refine z_isub C dX4_ahead_28 ?_
      refine lv_goto (tgt := 68) hx hb dX4_ahead_29 (by decide) ?_
      exact z_iret C hlk hr hQ (by subst c_16; first | (rw [ahd_1 (by omega)]; done) | (rw [ahd_2 (by omega) (by assumption) (by omega)]; done) | (rw [ahd_3 (by omega) (by assumption)]; done) | (rw [ahd_4 (by omega) (by omega)]; done) | (rw [ahd_5 (by omega)]; done) | (rw [ahd_6 (by omega) (by assumption) (by omega)]; done) | (rw [ahd_7 (by omega) (by assumption)]; done) | (rw [ahd_8 (by omega) (by omega)]; done)) dX4_ahead_68
set_option maxHeartbeats 4000000 in
set_option maxRecDepth 100000 in
theorem k_X4_pulls (l : Launch) (D : va_G) (dA : Nat → ClassId) (a w le rg st sd qa ql qf up dn : Nat) (fa fl ff : Nat → Int) (s0 k : Nat) (hwl : w * le ≤ 16) (hk : k < w * le) (hrg : rg < 2147483648) (hs0 : s0 < 2147483648) : zM l yX4_pulls cX4_pulls 6 (some .int) (zRm 2 45) D dA [.ref (a), .int (zI ((s0 : Nat) : Int)), .int (zI ((k : Nat) : Int))] [(a, .inr (4, [.int (zI ((w : Nat) : Int)), .int (zI ((le : Nat) : Int)), .int (zI ((rg : Nat) : Int)), .int (zI ((st : Nat) : Int)), .int (zI ((sd : Nat) : Int)), .ref (qa), .ref (ql), .ref (qf), .int (zI ((up : Nat) : Int)), .int (zI ((dn : Nat) : Int))])), (qa, .inl (dA 3, 16, .inl (fun j => zI (fa j)))), (ql, .inl (dA 3, 16, .inl (fun j => zI (fl j)))), (qf, .inl (dA 3, 16, .inl (fun j => zI (ff j))))] (some (.int (zI (pullN w le rg fa fl ff s0 k 4)))) := by
  refine zM.of (by decide +kernel) rfl ?_
  intro pp ee ss mm args below meth cd Q C hr hlk hQ hP ls hl
  have hx := C.1.1
  have hb := C.1.2.1
  have hl : lv_has ls 6 [(0, .ref (a)), (1, .int (zI ((s0 : Nat) : Int))), (2, .int (zI ((k : Nat) : Int)))] := hl
  refine lv_aload_n hx hb dX4_pulls_0 rfl (lv_at hl 0 rfl) ?_
  refine z_get C hP 0 rfl rfl in_X4 7 (by decide) q317 rfl dX4_pulls_1 ?_
  refine lv_iload_n hx hb dX4_pulls_4 rfl (lv_at hl 2 rfl) ?_
  refine z_iald C hP 3 rfl (k) rfl (by omega) (by decide) dX4_pulls_5 ?_
  refine lv_istore_n (lv' := [(3, .int (zI (ff k))), (0, .ref (a)), (1, .int (zI ((s0 : Nat) : Int))), (2, .int (zI ((k : Nat) : Int)))]) hx hb dX4_pulls_6 rfl hl (by decide) rfl (fun ls hl => ?_)
  refine z_iconst C dX4_pulls_7 ?_
  refine lv_istore (lv' := [(4, .int (zI 0)), (3, .int (zI (ff k))), (0, .ref (a)), (1, .int (zI ((s0 : Nat) : Int))), (2, .int (zI ((k : Nat) : Int)))]) hx hb dX4_pulls_8 hl (by decide) rfl (fun ls hl => ?_)
  refine lv_iload hx hb dX4_pulls_10 (lv_at hl 0 rfl) ?_
  refine z_iconst C dX4_pulls_12 ?_
  refine z_icmp_ge (tgt := 71) C ⟨by decide, by decide⟩ ⟨by decide, by decide⟩ dX4_pulls_13 (by decide) (fun c => absurd c (by decide)) (fun _ => ?_)
  refine lv_aload_n hx hb dX4_pulls_16 rfl (lv_at hl 2 rfl) ?_
  refine lv_iload_n hx hb dX4_pulls_17 rfl (lv_at hl 4 rfl) ?_
  refine lv_iload hx hb dX4_pulls_18 (lv_at hl 0 rfl) ?_
  refine z_iconst C dX4_pulls_20 ?_
  refine z_icmp_ne (tgt := 28) C ⟨by decide, by decide⟩ ⟨by decide, by decide⟩ dX4_pulls_21 (by decide) (fun _ => ?_) (fun c => absurd c (by decide))
  refine z_iconst C dX4_pulls_28 ?_
  refine z_cV (n := 2) (As := [.int (zI ((k : Nat) : Int)), .int (zI 0)]) (rest := []) C hP (k_X4_other l D dA (a) (w) (le) (rg) (st) (sd) (qa) (ql) (qf) (up) (dn) (k) (false) (by first | assumption | omega) (by first | assumption | omega) (by first | assumption | omega)) (lw_V q967 q784 q785 q115 q786) (by decide +kernel) rfl ⟨Nat.le_of_ble_eq_true rfl, Nat.le_of_ble_eq_true rfl⟩ hl.1 (hP.sub [0] rfl) 0 rfl rfl rfl (Nat.le_of_ble_eq_true rfl) dX4_pulls_29 (Nat.zero_le _) (Nat.zero_le _) ?_
  refine z_nm (fun to_1 e_to_1 => ?_)
  have o_to_1 := oth_lt rg false hk
  rw [← e_to_1] at o_to_1
  refine lv_istore (lv' := [(5, .int (zI (to_1))), (4, .int (zI 0)), (3, .int (zI (ff k))), (0, .ref (a)), (1, .int (zI ((s0 : Nat) : Int))), (2, .int (zI ((k : Nat) : Int)))]) hx hb dX4_pulls_32 hl (by decide) rfl (fun ls hl => ?_)
  refine lv_iload hx hb dX4_pulls_34 (lv_at hl 0 rfl) ?_
  have J65 : ∀ (sm : Int), (sm = pullN w le rg fa fl ff s0 k 1) → ∀ ls : Array Slot, lv_has ls 6 [(4, .int (zI 0)), (3, .int (zI (sm))), (0, .ref (a)), (1, .int (zI ((s0 : Nat) : Int))), (2, .int (zI ((k : Nat) : Int)))] → W pp l ee (zRm 2 45) ss mm args below meth cd ss.heap [] 0 0 Q (F0 mm 65 ls []) := by
    intro sm hs ls hl
    refine lv_iinc (v := zI 1) (lv' := [(4, .int (zI 1)), (3, .int (zI (sm))), (0, .ref (a)), (1, .int (zI ((s0 : Nat) : Int))), (2, .int (zI ((k : Nat) : Int)))]) hx hb dX4_pulls_65 hl (k := 0) rfl (zI_inc (by omega)) (by decide) rfl (fun ls hl => ?_)
    refine lv_goto (tgt := 10) hx hb dX4_pulls_68 (by decide) ?_
    refine lv_iload hx hb dX4_pulls_10 (lv_at hl 0 rfl) ?_
    refine z_iconst C dX4_pulls_12 ?_
    refine z_icmp_ge (tgt := 71) C ⟨by decide, by decide⟩ ⟨by decide, by decide⟩ dX4_pulls_13 (by decide) (fun c => absurd c (by decide)) (fun _ => ?_)
    refine lv_aload_n hx hb dX4_pulls_16 rfl (lv_at hl 2 rfl) ?_
    refine lv_iload_n hx hb dX4_pulls_17 rfl (lv_at hl 4 rfl) ?_
    refine lv_iload hx hb dX4_pulls_18 (lv_at hl 0 rfl) ?_
    refine z_iconst C dX4_pulls_20 ?_
    refine z_icmp_ne (tgt := 28) C ⟨by decide, by decide⟩ ⟨by decide, by decide⟩ dX4_pulls_21 (by decide) (fun c => absurd c (by decide)) (fun _ => ?_)
    refine z_iconst C dX4_pulls_24 ?_
    refine lv_goto (tgt := 29) hx hb dX4_pulls_25 (by decide) ?_
    refine z_cV (n := 2) (As := [.int (zI ((k : Nat) : Int)), .int (zI 1)]) (rest := []) C hP (k_X4_other l D dA (a) (w) (le) (rg) (st) (sd) (qa) (ql) (qf) (up) (dn) (k) (true) (by first | assumption | omega) (by first | assumption | omega) (by first | assumption | omega)) (lw_V q967 q784 q785 q115 q786) (by decide +kernel) rfl ⟨Nat.le_of_ble_eq_true rfl, Nat.le_of_ble_eq_true rfl⟩ hl.1 (hP.sub [0] rfl) 0 rfl rfl rfl (Nat.le_of_ble_eq_true rfl) dX4_pulls_29 (Nat.zero_le _) (Nat.zero_le _) ?_
    refine z_nm (fun to_2 e_to_2 => ?_)
    have o_to_2 := oth_lt rg true hk
    rw [← e_to_2] at o_to_2
    refine lv_istore (lv' := [(5, .int (zI (to_2))), (4, .int (zI 1)), (3, .int (zI (sm))), (0, .ref (a)), (1, .int (zI ((s0 : Nat) : Int))), (2, .int (zI ((k : Nat) : Int)))]) hx hb dX4_pulls_32 hl (by decide) rfl (fun ls hl => ?_)
    refine lv_iload hx hb dX4_pulls_34 (lv_at hl 0 rfl) ?_
    have J65 : ∀ (sm : Int), (sm = pullN w le rg fa fl ff s0 k 2) → ∀ ls : Array Slot, lv_has ls 6 [(4, .int (zI 1)), (3, .int (zI (sm))), (0, .ref (a)), (1, .int (zI ((s0 : Nat) : Int))), (2, .int (zI ((k : Nat) : Int)))] → W pp l ee (zRm 2 45) ss mm args below meth cd ss.heap [] 0 0 Q (F0 mm 65 ls []) := by
      intro sm hs ls hl
      refine lv_iinc (v := zI 2) (lv' := [(4, .int (zI 2)), (3, .int (zI (sm))), (0, .ref (a)), (1, .int (zI ((s0 : Nat) : Int))), (2, .int (zI ((k : Nat) : Int)))]) hx hb dX4_pulls_65 hl (k := 0) rfl (zI_inc (by omega)) (by decide) rfl (fun ls hl => ?_)
      refine lv_goto (tgt := 10) hx hb dX4_pulls_68 (by decide) ?_
      refine lv_iload hx hb dX4_pulls_10 (lv_at hl 0 rfl) ?_
      refine z_iconst C dX4_pulls_12 ?_
      refine z_icmp_ge (tgt := 71) C ⟨by decide, by decide⟩ ⟨by decide, by decide⟩ dX4_pulls_13 (by decide) (fun _ => ?_) (fun c => absurd c (by decide))
      refine z_iconst C dX4_pulls_71 ?_
      refine lv_istore (lv' := [(4, .int (zI 0)), (3, .int (zI (sm))), (0, .ref (a)), (1, .int (zI ((s0 : Nat) : Int))), (2, .int (zI ((k : Nat) : Int)))]) hx hb dX4_pulls_72 hl (by decide) rfl (fun ls hl => ?_)
      refine lv_iload hx hb dX4_pulls_74 (lv_at hl 0 rfl) ?_
      refine z_iconst C dX4_pulls_76 ?_
      refine z_icmp_ge (tgt := 136) C ⟨by decide, by decide⟩ ⟨by decide, by decide⟩ dX4_pulls_77 (by decide) (fun c => absurd c (by decide)) (fun _ => ?_)
      refine lv_aload_n hx hb dX4_pulls_80 rfl (lv_at hl 2 rfl) ?_
      refine lv_iload_n hx hb dX4_pulls_81 rfl (lv_at hl 4 rfl) ?_
      refine lv_iload hx hb dX4_pulls_82 (lv_at hl 0 rfl) ?_
      refine z_iconst C dX4_pulls_84 ?_
      refine z_icmp_ne (tgt := 92) C ⟨by decide, by decide⟩ ⟨by decide, by decide⟩ dX4_pulls_85 (by decide) (fun _ => ?_) (fun c => absurd c (by decide))
      refine z_iconst C dX4_pulls_92 ?_
      refine z_cV (n := 2) (As := [.int (zI ((k : Nat) : Int)), .int (zI 0)]) (rest := []) C hP (k_X4_ahead l D dA (a) (w) (le) (rg) (st) (sd) (qa) (ql) (qf) (up) (dn) (k) (false) (by first | assumption | omega) (by first | assumption | omega) (by first | assumption | omega)) (lw_V q984 q986 qs36 q115 q987) (by decide +kernel) rfl ⟨Nat.le_of_ble_eq_true rfl, Nat.le_of_ble_eq_true rfl⟩ hl.1 (hP.sub [0] rfl) 0 rfl rfl rfl (Nat.le_of_ble_eq_true rfl) dX4_pulls_93 (Nat.zero_le _) (Nat.zero_le _) ?_
      refine z_nm (fun fr_3 e_fr_3 => ?_)
      have o_fr_3 := ahd_lt rg false hk
      rw [← e_fr_3] at o_fr_3
      refine lv_istore (lv' := [(5, .int (zI (fr_3))), (4, .int (zI 0)), (3, .int (zI (sm))), (0, .ref (a)), (1, .int (zI ((s0 : Nat) : Int))), (2, .int (zI ((k : Nat) : Int)))]) hx hb dX4_pulls_96 hl (by decide) rfl (fun ls hl => ?_)
      refine lv_iload hx hb dX4_pulls_98 (lv_at hl 0 rfl) ?_
      have J130 : ∀ (sm : Int), (sm = pullN w le rg fa fl ff s0 k 3) → ∀ ls : Array Slot, lv_has ls 6 [(4, .int (zI 0)), (3, .int (zI (sm))), (0, .ref (a)), (1, .int (zI ((s0 : Nat) : Int))), (2, .int (zI ((k : Nat) : Int)))] → W pp l ee (zRm 2 45) ss mm args below meth cd ss.heap [] 0 0 Q (F0 mm 130 ls []) := by
        intro sm hs ls hl
        refine lv_iinc (v := zI 1) (lv' := [(4, .int (zI 1)), (3, .int (zI (sm))), (0, .ref (a)), (1, .int (zI ((s0 : Nat) : Int))), (2, .int (zI ((k : Nat) : Int)))]) hx hb dX4_pulls_130 hl (k := 0) rfl (zI_inc (by omega)) (by decide) rfl (fun ls hl => ?_)
        refine lv_goto (tgt := 74) hx hb dX4_pulls_133 (by decide) ?_
        refine lv_iload hx hb dX4_pulls_74 (lv_at hl 0 rfl) ?_
        refine z_iconst C dX4_pulls_76 ?_
        refine z_icmp_ge (tgt := 136) C ⟨by decide, by decide⟩ ⟨by decide, by decide⟩ dX4_pulls_77 (by decide) (fun c => absurd c (by decide)) (fun _ => ?_)
        refine lv_aload_n hx hb dX4_pulls_80 rfl (lv_at hl 2 rfl) ?_
        refine lv_iload_n hx hb dX4_pulls_81 rfl (lv_at hl 4 rfl) ?_
        refine lv_iload hx hb dX4_pulls_82 (lv_at hl 0 rfl) ?_
        refine z_iconst C dX4_pulls_84 ?_
        refine z_icmp_ne (tgt := 92) C ⟨by decide, by decide⟩ ⟨by decide, by decide⟩ dX4_pulls_85 (by decide) (fun c => absurd c (by decide)) (fun _ => ?_)
        refine z_iconst C dX4_pulls_88 ?_
        refine lv_goto (tgt := 93) hx hb dX4_pulls_89 (by decide) ?_
        refine z_cV (n := 2) (As := [.int (zI ((k : Nat) : Int)), .int (zI 1)]) (rest := []) C hP (k_X4_ahead l D dA (a) (w) (le) (rg) (st) (sd) (qa) (ql) (qf) (up) (dn) (k) (true) (by first | assumption | omega) (by first | assumption | omega) (by first | assumption | omega)) (lw_V q984 q986 qs36 q115 q987) (by decide +kernel) rfl ⟨Nat.le_of_ble_eq_true rfl, Nat.le_of_ble_eq_true rfl⟩ hl.1 (hP.sub [0] rfl) 0 rfl rfl rfl (Nat.le_of_ble_eq_true rfl) dX4_pulls_93 (Nat.zero_le _) (Nat.zero_le _) ?_
        refine z_nm (fun fr_4 e_fr_4 => ?_)
        have o_fr_4 := ahd_lt rg true hk
        rw [← e_fr_4] at o_fr_4
        refine lv_istore (lv' := [(5, .int (zI (fr_4))), (4, .int (zI 1)), (3, .int (zI (sm))), (0, .ref (a)), (1, .int (zI ((s0 : Nat) : Int))), (2, .int (zI ((k : Nat) : Int)))]) hx hb dX4_pulls_96 hl (by decide) rfl (fun ls hl => ?_)
        refine lv_iload hx hb dX4_pulls_98 (lv_at hl 0 rfl) ?_
        have J130 : ∀ (sm : Int), (sm = pullN w le rg fa fl ff s0 k 4) → ∀ ls : Array Slot, lv_has ls 6 [(4, .int (zI 1)), (3, .int (zI (sm))), (0, .ref (a)), (1, .int (zI ((s0 : Nat) : Int))), (2, .int (zI ((k : Nat) : Int)))] → W pp l ee (zRm 2 45) ss mm args below meth cd ss.heap [] 0 0 Q (F0 mm 130 ls []) := by
          intro sm hs ls hl
          refine lv_iinc (v := zI 2) (lv' := [(4, .int (zI 2)), (3, .int (zI (sm))), (0, .ref (a)), (1, .int (zI ((s0 : Nat) : Int))), (2, .int (zI ((k : Nat) : Int)))]) hx hb dX4_pulls_130 hl (k := 0) rfl (zI_inc (by omega)) (by decide) rfl (fun ls hl => ?_)
          refine lv_goto (tgt := 74) hx hb dX4_pulls_133 (by decide) ?_
          refine lv_iload hx hb dX4_pulls_74 (lv_at hl 0 rfl) ?_
          refine z_iconst C dX4_pulls_76 ?_
          refine z_icmp_ge (tgt := 136) C ⟨by decide, by decide⟩ ⟨by decide, by decide⟩ dX4_pulls_77 (by decide) (fun _ => ?_) (fun c => absurd c (by decide))
          refine lv_iload_n hx hb dX4_pulls_136 rfl (lv_at hl 1 rfl) ?_
          exact z_iret C hlk hr hQ hs dX4_pulls_137
        refine z_if_lt (tgt := 130) C ⟨by omega, by omega⟩ dX4_pulls_100 (by decide) (fun c_100 => ?_) (fun c_100 => ?_)
        · exact J130 ((sm)) (by have e9 := e_fr_4; first | (have h8 := tieA_pos (fa := fa) (fl := fl) (st := s0) e9; simp only [pullN] at *; omega) | (have h8 := tieA_neg (fa := fa) (fl := fl) (st := s0) e9 c_100; simp only [pullN] at *; omega)) ls (lv_sub hl [1, 2, 3, 4, 5] rfl)
        · obtain ⟨fr_4n, rfl⟩ : ∃ q : Nat, fr_4 = (q : Int) := ⟨fr_4.toNat, by omega⟩
          refine lv_iload_n hx hb dX4_pulls_103 rfl (lv_at hl 2 rfl) ?_
          refine lv_aload_n hx hb dX4_pulls_104 rfl (lv_at hl 3 rfl) ?_
          refine lv_iload hx hb dX4_pulls_105 (lv_at hl 0 rfl) ?_
          refine lv_iload hx hb dX4_pulls_107 (lv_at hl 1 rfl) ?_
          refine z_iconst C dX4_pulls_109 ?_
          refine z_icmp_ne (tgt := 117) C ⟨by decide, by decide⟩ ⟨by decide, by decide⟩ dX4_pulls_110 (by decide) (fun c => absurd c (by decide)) (fun _ => ?_)
          refine z_iconst C dX4_pulls_113 ?_
          refine lv_goto (tgt := 118) hx hb dX4_pulls_114 (by decide) ?_
          refine z_cV (n := 2) (As := [.int (zI ((fr_4n : Nat) : Int)), .int (zI 1)]) (rest := [.int (zI (sm))]) C hP (k_X4_j l D dA (a) (w) (le) (rg) (st) (sd) (qa) (ql) (qf) (up) (dn) (fa) (fl) (fr_4n) (true) (by first | assumption | omega)) (lw_V q968 q828 q829 q115 q830) (by decide +kernel) rfl ⟨Nat.le_of_ble_eq_true rfl, Nat.le_of_ble_eq_true rfl⟩ hl.1 (hP.sub [0, 1, 2] rfl) 0 rfl rfl rfl (Nat.le_of_ble_eq_true rfl) dX4_pulls_118 (Nat.zero_le _) (Nat.zero_le _) ?_
          refine lv_iload_n hx hb dX4_pulls_121 rfl (lv_at hl 4 rfl) ?_
          refine lv_iload hx hb dX4_pulls_122 (lv_at hl 0 rfl) ?_
          refine z_cS (n := 2) (As := [.int (zI ((s0 : Nat) : Int)), .int (zI ((fr_4n : Nat) : Int))]) (rest := [.int (zI (jw fa fl fr_4n true)), .int (zI (sm))]) C (k_X4_spin l D dA (s0) (fr_4n) (by first | assumption | omega) (by first | assumption | omega)) (lw_S q977 q978 q115 q979) (by decide +kernel) rfl ⟨Nat.le_of_ble_eq_true rfl, Nat.le_of_ble_eq_true rfl⟩ hl.1 (hP.sub [] rfl) rfl (Nat.le_of_ble_eq_true rfl) dX4_pulls_124 (Nat.zero_le _) (Nat.zero_le _) ?_
          refine z_imul C dX4_pulls_127 ?_
          refine z_iadd C dX4_pulls_128 ?_
          refine lv_istore_n (lv' := [(3, .int (zI ((sm) + ((jw fa fl fr_4n true) * (spn s0 fr_4n))))), (5, .int (zI ((fr_4n : Nat) : Int))), (4, .int (zI 1)), (0, .ref (a)), (1, .int (zI ((s0 : Nat) : Int))), (2, .int (zI ((k : Nat) : Int)))]) hx hb dX4_pulls_129 rfl hl (by decide) rfl (fun ls hl => ?_)
          exact J130 (((sm) + ((jw fa fl fr_4n true) * (spn s0 fr_4n)))) (by have e9 := e_fr_4; first | (have h8 := tieA_pos (fa := fa) (fl := fl) (st := s0) e9; simp only [pullN] at *; omega) | (have h8 := tieA_neg (fa := fa) (fl := fl) (st := s0) e9 c_100; simp only [pullN] at *; omega)) ls (lv_sub hl [2, 0, 3, 4, 5] rfl)
      refine z_if_lt (tgt := 130) C ⟨by omega, by omega⟩ dX4_pulls_100 (by decide) (fun c_100 => ?_) (fun c_100 => ?_)
      · exact J130 ((sm)) (by have e9 := e_fr_3; first | (have h8 := tieA_pos (fa := fa) (fl := fl) (st := s0) e9; simp only [pullN] at *; omega) | (have h8 := tieA_neg (fa := fa) (fl := fl) (st := s0) e9 c_100; simp only [pullN] at *; omega)) ls (lv_sub hl [1, 2, 3, 4, 5] rfl)
      · obtain ⟨fr_3n, rfl⟩ : ∃ q : Nat, fr_3 = (q : Int) := ⟨fr_3.toNat, by omega⟩
        refine lv_iload_n hx hb dX4_pulls_103 rfl (lv_at hl 2 rfl) ?_
        refine lv_aload_n hx hb dX4_pulls_104 rfl (lv_at hl 3 rfl) ?_
        refine lv_iload hx hb dX4_pulls_105 (lv_at hl 0 rfl) ?_
        refine lv_iload hx hb dX4_pulls_107 (lv_at hl 1 rfl) ?_
        refine z_iconst C dX4_pulls_109 ?_
        refine z_icmp_ne (tgt := 117) C ⟨by decide, by decide⟩ ⟨by decide, by decide⟩ dX4_pulls_110 (by decide) (fun _ => ?_) (fun c => absurd c (by decide))
        refine z_iconst C dX4_pulls_117 ?_
        refine z_cV (n := 2) (As := [.int (zI ((fr_3n : Nat) : Int)), .int (zI 0)]) (rest := [.int (zI (sm))]) C hP (k_X4_j l D dA (a) (w) (le) (rg) (st) (sd) (qa) (ql) (qf) (up) (dn) (fa) (fl) (fr_3n) (false) (by first | assumption | omega)) (lw_V q968 q828 q829 q115 q830) (by decide +kernel) rfl ⟨Nat.le_of_ble_eq_true rfl, Nat.le_of_ble_eq_true rfl⟩ hl.1 (hP.sub [0, 1, 2] rfl) 0 rfl rfl rfl (Nat.le_of_ble_eq_true rfl) dX4_pulls_118 (Nat.zero_le _) (Nat.zero_le _) ?_
        refine lv_iload_n hx hb dX4_pulls_121 rfl (lv_at hl 4 rfl) ?_
        refine lv_iload hx hb dX4_pulls_122 (lv_at hl 0 rfl) ?_
        refine z_cS (n := 2) (As := [.int (zI ((s0 : Nat) : Int)), .int (zI ((fr_3n : Nat) : Int))]) (rest := [.int (zI (jw fa fl fr_3n false)), .int (zI (sm))]) C (k_X4_spin l D dA (s0) (fr_3n) (by first | assumption | omega) (by first | assumption | omega)) (lw_S q977 q978 q115 q979) (by decide +kernel) rfl ⟨Nat.le_of_ble_eq_true rfl, Nat.le_of_ble_eq_true rfl⟩ hl.1 (hP.sub [] rfl) rfl (Nat.le_of_ble_eq_true rfl) dX4_pulls_124 (Nat.zero_le _) (Nat.zero_le _) ?_
        refine z_imul C dX4_pulls_127 ?_
        refine z_iadd C dX4_pulls_128 ?_
        refine lv_istore_n (lv' := [(3, .int (zI ((sm) + ((jw fa fl fr_3n false) * (spn s0 fr_3n))))), (5, .int (zI ((fr_3n : Nat) : Int))), (4, .int (zI 0)), (0, .ref (a)), (1, .int (zI ((s0 : Nat) : Int))), (2, .int (zI ((k : Nat) : Int)))]) hx hb dX4_pulls_129 rfl hl (by decide) rfl (fun ls hl => ?_)
        exact J130 (((sm) + ((jw fa fl fr_3n false) * (spn s0 fr_3n)))) (by have e9 := e_fr_3; first | (have h8 := tieA_pos (fa := fa) (fl := fl) (st := s0) e9; simp only [pullN] at *; omega) | (have h8 := tieA_neg (fa := fa) (fl := fl) (st := s0) e9 c_100; simp only [pullN] at *; omega)) ls (lv_sub hl [2, 0, 3, 4, 5] rfl)
    refine z_if_lt (tgt := 65) C ⟨by omega, by omega⟩ dX4_pulls_36 (by decide) (fun c_36 => ?_) (fun c_36 => ?_)
    · exact J65 ((sm)) (by have e9 := e_to_2; first | (have h8 := tieT_pos (fa := fa) (fl := fl) (st := s0) e9; simp only [pullN] at *; omega) | (have h8 := tieT_neg (fa := fa) (fl := fl) (st := s0) e9 c_36; simp only [pullN] at *; omega)) ls (lv_sub hl [1, 2, 3, 4, 5] rfl)
    · obtain ⟨to_2n, rfl⟩ : ∃ q : Nat, to_2 = (q : Int) := ⟨to_2.toNat, by omega⟩
      refine lv_iload_n hx hb dX4_pulls_39 rfl (lv_at hl 2 rfl) ?_
      refine lv_aload_n hx hb dX4_pulls_40 rfl (lv_at hl 3 rfl) ?_
      refine lv_iload_n hx hb dX4_pulls_41 rfl (lv_at hl 5 rfl) ?_
      refine lv_iload hx hb dX4_pulls_42 (lv_at hl 1 rfl) ?_
      refine z_iconst C dX4_pulls_44 ?_
      refine z_icmp_ne (tgt := 52) C ⟨by decide, by decide⟩ ⟨by decide, by decide⟩ dX4_pulls_45 (by decide) (fun c => absurd c (by decide)) (fun _ => ?_)
      refine z_iconst C dX4_pulls_48 ?_
      refine lv_goto (tgt := 53) hx hb dX4_pulls_49 (by decide) ?_
      refine z_cV (n := 2) (As := [.int (zI ((k : Nat) : Int)), .int (zI 1)]) (rest := [.int (zI (sm))]) C hP (k_X4_j l D dA (a) (w) (le) (rg) (st) (sd) (qa) (ql) (qf) (up) (dn) (fa) (fl) (k) (true) (by first | assumption | omega)) (lw_V q968 q828 q829 q115 q830) (by decide +kernel) rfl ⟨Nat.le_of_ble_eq_true rfl, Nat.le_of_ble_eq_true rfl⟩ hl.1 (hP.sub [0, 1, 2] rfl) 0 rfl rfl rfl (Nat.le_of_ble_eq_true rfl) dX4_pulls_53 (Nat.zero_le _) (Nat.zero_le _) ?_
      refine lv_iload_n hx hb dX4_pulls_56 rfl (lv_at hl 4 rfl) ?_
      refine lv_iload hx hb dX4_pulls_57 (lv_at hl 0 rfl) ?_
      refine z_cS (n := 2) (As := [.int (zI ((s0 : Nat) : Int)), .int (zI ((to_2n : Nat) : Int))]) (rest := [.int (zI (jw fa fl k true)), .int (zI (sm))]) C (k_X4_spin l D dA (s0) (to_2n) (by first | assumption | omega) (by first | assumption | omega)) (lw_S q977 q978 q115 q979) (by decide +kernel) rfl ⟨Nat.le_of_ble_eq_true rfl, Nat.le_of_ble_eq_true rfl⟩ hl.1 (hP.sub [] rfl) rfl (Nat.le_of_ble_eq_true rfl) dX4_pulls_59 (Nat.zero_le _) (Nat.zero_le _) ?_
      refine z_imul C dX4_pulls_62 ?_
      refine z_iadd C dX4_pulls_63 ?_
      refine lv_istore_n (lv' := [(3, .int (zI ((sm) + ((jw fa fl k true) * (spn s0 to_2n))))), (5, .int (zI ((to_2n : Nat) : Int))), (4, .int (zI 1)), (0, .ref (a)), (1, .int (zI ((s0 : Nat) : Int))), (2, .int (zI ((k : Nat) : Int)))]) hx hb dX4_pulls_64 rfl hl (by decide) rfl (fun ls hl => ?_)
      exact J65 (((sm) + ((jw fa fl k true) * (spn s0 to_2n)))) (by have e9 := e_to_2; first | (have h8 := tieT_pos (fa := fa) (fl := fl) (st := s0) e9; simp only [pullN] at *; omega) | (have h8 := tieT_neg (fa := fa) (fl := fl) (st := s0) e9 c_36; simp only [pullN] at *; omega)) ls (lv_sub hl [2, 0, 3, 4, 5] rfl)
  refine z_if_lt (tgt := 65) C ⟨by omega, by omega⟩ dX4_pulls_36 (by decide) (fun c_36 => ?_) (fun c_36 => ?_)
  · exact J65 ((ff k)) (by have e9 := e_to_1; first | (have h8 := tieT_pos (fa := fa) (fl := fl) (st := s0) e9; simp only [pullN] at *; omega) | (have h8 := tieT_neg (fa := fa) (fl := fl) (st := s0) e9 c_36; simp only [pullN] at *; omega)) ls (lv_sub hl [1, 2, 3, 4, 5] rfl)
  · obtain ⟨to_1n, rfl⟩ : ∃ q : Nat, to_1 = (q : Int) := ⟨to_1.toNat, by omega⟩
    refine lv_iload_n hx hb dX4_pulls_39 rfl (lv_at hl 2 rfl) ?_
    refine lv_aload_n hx hb dX4_pulls_40 rfl (lv_at hl 3 rfl) ?_
    refine lv_iload_n hx hb dX4_pulls_41 rfl (lv_at hl 5 rfl) ?_
    refine lv_iload hx hb dX4_pulls_42 (lv_at hl 1 rfl) ?_
    refine z_iconst C dX4_pulls_44 ?_
    refine z_icmp_ne (tgt := 52) C ⟨by decide, by decide⟩ ⟨by decide, by decide⟩ dX4_pulls_45 (by decide) (fun _ => ?_) (fun c => absurd c (by decide))
    refine z_iconst C dX4_pulls_52 ?_
    refine z_cV (n := 2) (As := [.int (zI ((k : Nat) : Int)), .int (zI 0)]) (rest := [.int (zI (ff k))]) C hP (k_X4_j l D dA (a) (w) (le) (rg) (st) (sd) (qa) (ql) (qf) (up) (dn) (fa) (fl) (k) (false) (by first | assumption | omega)) (lw_V q968 q828 q829 q115 q830) (by decide +kernel) rfl ⟨Nat.le_of_ble_eq_true rfl, Nat.le_of_ble_eq_true rfl⟩ hl.1 (hP.sub [0, 1, 2] rfl) 0 rfl rfl rfl (Nat.le_of_ble_eq_true rfl) dX4_pulls_53 (Nat.zero_le _) (Nat.zero_le _) ?_
    refine lv_iload_n hx hb dX4_pulls_56 rfl (lv_at hl 4 rfl) ?_
    refine lv_iload hx hb dX4_pulls_57 (lv_at hl 0 rfl) ?_
    refine z_cS (n := 2) (As := [.int (zI ((s0 : Nat) : Int)), .int (zI ((to_1n : Nat) : Int))]) (rest := [.int (zI (jw fa fl k false)), .int (zI (ff k))]) C (k_X4_spin l D dA (s0) (to_1n) (by first | assumption | omega) (by first | assumption | omega)) (lw_S q977 q978 q115 q979) (by decide +kernel) rfl ⟨Nat.le_of_ble_eq_true rfl, Nat.le_of_ble_eq_true rfl⟩ hl.1 (hP.sub [] rfl) rfl (Nat.le_of_ble_eq_true rfl) dX4_pulls_59 (Nat.zero_le _) (Nat.zero_le _) ?_
    refine z_imul C dX4_pulls_62 ?_
    refine z_iadd C dX4_pulls_63 ?_
    refine lv_istore_n (lv' := [(3, .int (zI ((ff k) + ((jw fa fl k false) * (spn s0 to_1n))))), (5, .int (zI ((to_1n : Nat) : Int))), (4, .int (zI 0)), (0, .ref (a)), (1, .int (zI ((s0 : Nat) : Int))), (2, .int (zI ((k : Nat) : Int)))]) hx hb dX4_pulls_64 rfl hl (by decide) rfl (fun ls hl => ?_)
    exact J65 (((ff k) + ((jw fa fl k false) * (spn s0 to_1n)))) (by have e9 := e_to_1; first | (have h8 := tieT_pos (fa := fa) (fl := fl) (st := s0) e9; simp only [pullN] at *; omega) | (have h8 := tieT_neg (fa := fa) (fl := fl) (st := s0) e9 c_36; simp only [pullN] at *; omega)) ls (lv_sub hl [2, 0, 3, 4, 5] rfl)
set_option maxHeartbeats 4000000 in
set_option maxRecDepth 100000 in
theorem k_X4_cost (l : Launch) (D : va_G) (dA : Nat → ClassId) (a w le rg st sd qa ql qf up dn : Nat) (fa fl ff : Nat → Int) (s0 k : Nat) (hwl : w * le ≤ 16) (hk : k < w * le) (hrg : rg < 2147483648) (hs0 : s0 < 2147483648) : zM l yX4_cost cX4_cost 3 (some .int) (zRm 3 70) D dA [.ref (a), .int (zI ((s0 : Nat) : Int)), .int (zI ((k : Nat) : Int))] [(a, .inr (4, [.int (zI ((w : Nat) : Int)), .int (zI ((le : Nat) : Int)), .int (zI ((rg : Nat) : Int)), .int (zI ((st : Nat) : Int)), .int (zI ((sd : Nat) : Int)), .ref (qa), .ref (ql), .ref (qf), .int (zI ((up : Nat) : Int)), .int (zI ((dn : Nat) : Int))])), (qa, .inl (dA 3, 16, .inl (fun j => zI (fa j)))), (ql, .inl (dA 3, 16, .inl (fun j => zI (fl j)))), (qf, .inl (dA 3, 16, .inl (fun j => zI (ff j))))] (some (.int (zI (costT w le rg fa fl ff s0 k)))) := by
  refine zM.of (by decide +kernel) rfl ?_
  intro pp ee ss mm args below meth cd Q C hr hlk hQ hP ls hl
  have hx := C.1.1
  have hb := C.1.2.1
  have hl : lv_has ls 3 [(0, .ref (a)), (1, .int (zI ((s0 : Nat) : Int))), (2, .int (zI ((k : Nat) : Int)))] := hl
  refine z_iconst C dX4_cost_0 ?_
  refine lv_iload_n hx hb dX4_cost_1 rfl (lv_at hl 1 rfl) ?_
  refine lv_iload_n hx hb dX4_cost_2 rfl (lv_at hl 2 rfl) ?_
  refine z_cS (n := 2) (As := [.int (zI ((s0 : Nat) : Int)), .int (zI ((k : Nat) : Int))]) (rest := [.int (zI 2)]) C (k_X4_spin l D dA (s0) (k) (by first | assumption | omega) (by first | assumption | omega)) (lw_S q977 q978 q115 q979) (by decide +kernel) rfl ⟨Nat.le_of_ble_eq_true rfl, Nat.le_of_ble_eq_true rfl⟩ hl.1 (hP.sub [] rfl) rfl (Nat.le_of_ble_eq_true rfl) dX4_cost_3 (Nat.zero_le _) (Nat.zero_le _) ?_
  refine z_imul C dX4_cost_6 ?_
  refine lv_aload_n hx hb dX4_cost_7 rfl (lv_at hl 0 rfl) ?_
  refine lv_iload_n hx hb dX4_cost_8 rfl (lv_at hl 1 rfl) ?_
  refine lv_iload_n hx hb dX4_cost_9 rfl (lv_at hl 2 rfl) ?_
  refine z_cV (n := 2) (As := [.int (zI ((s0 : Nat) : Int)), .int (zI ((k : Nat) : Int))]) (rest := [.int (zI (2 * (spn s0 k)))]) C hP (k_X4_pulls l D dA (a) (w) (le) (rg) (st) (sd) (qa) (ql) (qf) (up) (dn) (fa) (fl) (ff) (s0) (k) (by first | assumption | omega) (by first | assumption | omega) (by first | assumption | omega) (by first | assumption | omega)) (lw_V q980 q982 qs35 q115 q983) (by decide +kernel) rfl ⟨Nat.le_of_ble_eq_true rfl, Nat.le_of_ble_eq_true rfl⟩ hl.1 (hP.sub [0, 1, 2, 3] rfl) 0 rfl rfl rfl (Nat.le_of_ble_eq_true rfl) dX4_cost_10 (Nat.zero_le _) (Nat.zero_le _) ?_
  refine z_imul C dX4_cost_13 ?_
  exact z_iret C hlk hr hQ (by unfold costT; rfl) dX4_cost_14
