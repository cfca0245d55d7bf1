set_option maxHeartbeats 4000000 in
set_option maxRecDepth 100000 in
theorem k_X4_lowest (l : Launch) (D : va_G) (dA : Nat → ClassId) (a w le rg st sd qa ql qf up dn : Nat) (fa fl ff : Nat → Int) (hwl : w * le ≤ 16) (hrg : rg < 2147483648) : zM l yX4_lowest cX4_lowest 4 (some .int) (zRm 2 45) D dA [.ref (a)] [(a, .inr (4, [.int (zI ((w : Nat) : Int)), .int (zI ((le : Nat) : Int)), .int (zI ((rg : Nat) : Int)), .int (zI ((st : Nat) : Int)), .int (zI ((sd : Nat) : Int)), .ref (qa), .ref (ql), .ref (qf), .int (zI ((up : Nat) : Int)), .int (zI ((dn : Nat) : Int))])), (qa, .inl (dA 3, 16, .inl (fun j => zI (fa j)))), (ql, .inl (dA 3, 16, .inl (fun j => zI (fl j)))), (qf, .inl (dA 3, 16, .inl (fun j => zI (ff j))))] (some (.int (zI (lowN w le rg fa fl ff (w * le))))) := by
  refine zM.of (by decide +kernel) rfl ?_
  intro pp ee ss mm args below meth cd Q C hr hlk hQ hP ls hl
  have hx := C.1.1
  have hb := C.1.2.1
  have hl : lv_has ls 4 [(0, .ref (a))] := hl
  refine z_iconst C dX4_lowest_0 ?_
  refine lv_istore_n (lv' := [(1, .int (zI 0)), (0, .ref (a))]) hx hb dX4_lowest_1 rfl hl (by decide) rfl (fun ls hl => ?_)
  refine z_iconst C dX4_lowest_2 ?_
  refine lv_istore_n (lv' := [(2, .int (zI 0)), (1, .int (zI 0)), (0, .ref (a))]) hx hb dX4_lowest_3 rfl hl (by decide) rfl (fun ls hl => ?_)
  have L4 : ∀ (N : Nat) (i : Nat) (sm : Int), (i ≤ w * le) → (sm = lowN w le rg fa fl ff i) → (w * le - i) < N → ∀ ls : Array Slot, lv_has ls 4 [(0, .ref (a)), (1, .int (zI (sm))), (2, .int (zI ((i : Nat) : Int)))] → W pp l ee (zRm 2 45) ss mm args below meth cd ss.heap [] 0 0 Q (F0 mm 4 ls []) := by
    intro N
    induction N with
    | zero => intro i sm _ _ hm; exact absurd hm (Nat.not_lt_zero _)
    | succ N ih4 =>
      intro i sm hi hs hm4 ls hl
      refine lv_iload_n hx hb dX4_lowest_4 rfl (lv_at hl 2 rfl) ?_
      refine lv_aload_n hx hb dX4_lowest_5 rfl (lv_at hl 0 rfl) ?_
      refine z_cV (n := 0) (As := []) (rest := [.int (zI ((i : Nat) : Int))]) C hP (k_X4_sites l D dA (a) (w) (le) (rg) (st) (sd) (qa) (ql) (qf) (up) (dn)) (lw_V q781 q766 q767 q115 q768) (by decide +kernel) rfl ⟨Nat.le_of_ble_eq_true rfl, Nat.le_of_ble_eq_true rfl⟩ hl.1 (hP.sub [0] rfl) 0 rfl rfl rfl (Nat.le_of_ble_eq_true rfl) dX4_lowest_6 (Nat.zero_le _) (Nat.zero_le _) ?_
      refine z_icmp_ge (tgt := 80) C ⟨by omega, by omega⟩ ⟨by omega, by omega⟩ dX4_lowest_9 (by decide) (fun c_9 => ?_) (fun c_9 => ?_)
      · refine lv_iload_n hx hb dX4_lowest_80 rfl (lv_at hl 1 rfl) ?_
        exact z_iret C hlk hr hQ (by rw [hs]; congr 1; omega) dX4_lowest_81
      · have hk : i < w * le := by omega
        refine lv_iload_n hx hb dX4_lowest_12 rfl (lv_at hl 1 rfl) ?_
        refine lv_aload_n hx hb dX4_lowest_13 rfl (lv_at hl 0 rfl) ?_
        refine z_get C hP 0 rfl rfl in_X4 7 (by decide) q317 rfl dX4_lowest_14 ?_
        refine lv_iload_n hx hb dX4_lowest_17 rfl (lv_at hl 2 rfl) ?_
        refine z_iald C hP 3 rfl (i) rfl (by omega) (by decide) dX4_lowest_18 ?_
        refine z_iadd C dX4_lowest_19 ?_
        refine lv_istore_n (lv' := [(1, .int (zI ((sm) + (ff i)))), (0, .ref (a)), (2, .int (zI ((i : Nat) : Int)))]) hx hb dX4_lowest_20 rfl hl (by decide) rfl (fun ls hl => ?_)
        refine z_iconst C dX4_lowest_21 ?_
        refine lv_istore_n (lv' := [(3, .int (zI 0)), (1, .int (zI ((sm) + (ff i)))), (0, .ref (a)), (2, .int (zI ((i : Nat) : Int)))]) hx hb dX4_lowest_22 rfl hl (by decide) rfl (fun ls hl => ?_)
        refine lv_iload_n hx hb dX4_lowest_23 rfl (lv_at hl 0 rfl) ?_
        refine z_iconst C dX4_lowest_24 ?_
        refine z_icmp_ge (tgt := 74) C ⟨by decide, by decide⟩ ⟨by decide, by decide⟩ dX4_lowest_25 (by decide) (fun c => absurd c (by decide)) (fun _ => ?_)
        have J68 : ∀ (s2 : Int), (s2 = lowN w le rg fa fl ff i + ff i - tj w le rg fa fl i false) → ∀ ls : Array Slot, lv_has ls 4 [(3, .int (zI 0)), (1, .int (zI (s2))), (0, .ref (a)), (2, .int (zI ((i : Nat) : Int)))] → W pp l ee (zRm 2 45) ss mm args below meth cd ss.heap [] 0 0 Q (F0 mm 68 ls []) := by
          intro s2 hs2 ls hl
          refine lv_iinc (v := zI 1) (lv' := [(3, .int (zI 1)), (1, .int (zI (s2))), (0, .ref (a)), (2, .int (zI ((i : Nat) : Int)))]) hx hb dX4_lowest_68 hl (k := 0) rfl (zI_inc (by omega)) (by decide) rfl (fun ls hl => ?_)
          refine lv_goto (tgt := 23) hx hb dX4_lowest_71 (by decide) ?_
          refine lv_iload_n hx hb dX4_lowest_23 rfl (lv_at hl 0 rfl) ?_
          refine z_iconst C dX4_lowest_24 ?_
          refine z_icmp_ge (tgt := 74) C ⟨by decide, by decide⟩ ⟨by decide, by decide⟩ dX4_lowest_25 (by decide) (fun c => absurd c (by decide)) (fun _ => ?_)
          have J68 : ∀ (s2 : Int), (s2 = lowN w le rg fa fl ff i + ff i - tj w le rg fa fl i false - tj w le rg fa fl i true) → ∀ ls : Array Slot, lv_has ls 4 [(3, .int (zI 1)), (1, .int (zI (s2))), (0, .ref (a)), (2, .int (zI ((i : Nat) : Int)))] → W pp l ee (zRm 2 45) ss mm args below meth cd ss.heap [] 0 0 Q (F0 mm 68 ls []) := by
            intro s2 hs2 ls hl
            refine lv_iinc (v := zI 2) (lv' := [(3, .int (zI 2)), (1, .int (zI (s2))), (0, .ref (a)), (2, .int (zI ((i : Nat) : Int)))]) hx hb dX4_lowest_68 hl (k := 0) rfl (zI_inc (by omega)) (by decide) rfl (fun ls hl => ?_)
            refine lv_goto (tgt := 23) hx hb dX4_lowest_71 (by decide) ?_
            refine lv_iload_n hx hb dX4_lowest_23 rfl (lv_at hl 0 rfl) ?_
            refine z_iconst C dX4_lowest_24 ?_
            refine z_icmp_ge (tgt := 74) C ⟨by decide, by decide⟩ ⟨by decide, by decide⟩ dX4_lowest_25 (by decide) (fun _ => ?_) (fun c => absurd c (by decide))
            refine lv_iinc (v := zI ((i + 1 : Nat) : Int)) (lv' := [(2, .int (zI ((i + 1 : Nat) : Int))), (3, .int (zI 2)), (1, .int (zI (s2))), (0, .ref (a))]) hx hb dX4_lowest_74 hl (k := 3) rfl (zI_inc (by omega)) (by decide) rfl (fun ls hl => ?_)
            refine lv_goto (tgt := 4) hx hb dX4_lowest_77 (by decide) ?_
            exact ih4 (i + 1) ((s2)) (by first | assumption | omega | rfl) (by simp only [lowN]; omega) (by omega) ls (lv_sub hl [3, 2, 0] rfl)
          refine lv_iload_n hx hb dX4_lowest_28 rfl (lv_at hl 1 rfl) ?_
          refine lv_aload_n hx hb dX4_lowest_29 rfl (lv_at hl 2 rfl) ?_
          refine lv_iload_n hx hb dX4_lowest_30 rfl (lv_at hl 3 rfl) ?_
          refine lv_iload_n hx hb dX4_lowest_31 rfl (lv_at hl 0 rfl) ?_
          refine z_iconst C dX4_lowest_32 ?_
          refine z_icmp_ne (tgt := 40) C ⟨by decide, by decide⟩ ⟨by decide, by decide⟩ dX4_lowest_33 (by decide) (fun c => absurd c (by decide)) (fun _ => ?_)
          refine z_iconst C dX4_lowest_36 ?_
          refine lv_goto (tgt := 41) hx hb dX4_lowest_37 (by decide) ?_
          refine z_cV (n := 2) (As := [.int (zI ((i : Nat) : Int)), .int (zI 1)]) (rest := [.int (zI (s2))]) C hP (k_X4_other l D dA (a) (w) (le) (rg) (st) (sd) (qa) (ql) (qf) (up) (dn) (i) (true) (by first | assumption | omega | rfl) (by first | assumption | omega | rfl) (by first | assumption | omega | rfl)) (lw_V q967 q784 q785 q115 q786) (by decide +kernel) rfl ⟨Nat.le_of_ble_eq_true rfl, Nat.le_of_ble_eq_true rfl⟩ hl.1 (hP.sub [0] rfl) 0 rfl rfl rfl (Nat.le_of_ble_eq_true rfl) dX4_lowest_41 (Nat.zero_le _) (Nat.zero_le _) ?_
          refine z_nm (fun to_1 e_to_1 => ?_)
          have o_to_1 := oth_lt rg true (show i < w * le by omega)
          rw [← e_to_1] at o_to_1
          refine z_if_lt (tgt := 65) C ⟨by omega, by omega⟩ dX4_lowest_44 (by decide) (fun c_44 => ?_) (fun c_44 => ?_)
          · refine z_iconst C dX4_lowest_65 ?_
            refine z_isub C dX4_lowest_66 ?_
            refine lv_istore_n (lv' := [(1, .int (zI ((s2) - 0))), (3, .int (zI 1)), (0, .ref (a)), (2, .int (zI ((i : Nat) : Int)))]) hx hb dX4_lowest_67 rfl hl (by decide) rfl (fun ls hl => ?_)
            exact J68 (((s2) - 0)) (by first | (have h8 := tj_pos (fa := fa) (fl := fl) e_to_1 c_44; omega) | (have h8 := tj_neg (fa := fa) (fl := fl) e_to_1 c_44; omega)) ls (lv_sub hl [1, 0, 2, 3] rfl)
          · refine lv_aload_n hx hb dX4_lowest_47 rfl (lv_at hl 2 rfl) ?_
            refine lv_iload_n hx hb dX4_lowest_48 rfl (lv_at hl 3 rfl) ?_
            refine lv_iload_n hx hb dX4_lowest_49 rfl (lv_at hl 0 rfl) ?_
            refine z_iconst C dX4_lowest_50 ?_
            refine z_icmp_ne (tgt := 58) C ⟨by decide, by decide⟩ ⟨by decide, by decide⟩ dX4_lowest_51 (by decide) (fun c => absurd c (by decide)) (fun _ => ?_)
            refine z_iconst C dX4_lowest_54 ?_
            refine lv_goto (tgt := 59) hx hb dX4_lowest_55 (by decide) ?_
            refine z_cV (n := 2) (As := [.int (zI ((i : Nat) : Int)), .int (zI 1)]) (rest := [.int (zI (s2))]) C hP (k_X4_j l D dA (a) (w) (le) (rg) (st) (sd) (qa) (ql) (qf) (up) (dn) (fa) (fl) (i) (true) (by first | assumption | omega | rfl)) (lw_V q968 q828 q829 q115 q830) (by decide +kernel) rfl ⟨Nat.le_of_ble_eq_true rfl, Nat.le_of_ble_eq_true rfl⟩ hl.1 (hP.sub [0, 1, 2] rfl) 0 rfl rfl rfl (Nat.le_of_ble_eq_true rfl) dX4_lowest_59 (Nat.zero_le _) (Nat.zero_le _) ?_
            refine lv_goto (tgt := 66) hx hb dX4_lowest_62 (by decide) ?_
            refine z_isub C dX4_lowest_66 ?_
            refine lv_istore_n (lv' := [(1, .int (zI ((s2) - (jw fa fl i true)))), (3, .int (zI 1)), (0, .ref (a)), (2, .int (zI ((i : Nat) : Int)))]) hx hb dX4_lowest_67 rfl hl (by decide) rfl (fun ls hl => ?_)
            exact J68 (((s2) - (jw fa fl i true))) (by first | (have h8 := tj_pos (fa := fa) (fl := fl) e_to_1 c_44; omega) | (have h8 := tj_neg (fa := fa) (fl := fl) e_to_1 c_44; omega)) ls (lv_sub hl [1, 0, 2, 3] rfl)
        refine lv_iload_n hx hb dX4_lowest_28 rfl (lv_at hl 1 rfl) ?_
        refine lv_aload_n hx hb dX4_lowest_29 rfl (lv_at hl 2 rfl) ?_
        refine lv_iload_n hx hb dX4_lowest_30 rfl (lv_at hl 3 rfl) ?_
        refine lv_iload_n hx hb dX4_lowest_31 rfl (lv_at hl 0 rfl) ?_
        refine z_iconst C dX4_lowest_32 ?_
        refine z_icmp_ne (tgt := 40) C ⟨by decide, by decide⟩ ⟨by decide, by decide⟩ dX4_lowest_33 (by decide) (fun _ => ?_) (fun c => absurd c (by decide))
        refine z_iconst C dX4_lowest_40 ?_
        refine z_cV (n := 2) (As := [.int (zI ((i : Nat) : Int)), .int (zI 0)]) (rest := [.int (zI ((sm) + (ff i)))]) C hP (k_X4_other l D dA (a) (w) (le) (rg) (st) (sd) (qa) (ql) (qf) (up) (dn) (i) (false) (by first | assumption | omega | rfl) (by first | assumption | omega | rfl) (by first | assumption | omega | rfl)) (lw_V q967 q784 q785 q115 q786) (by decide +kernel) rfl ⟨Nat.le_of_ble_eq_true rfl, Nat.le_of_ble_eq_true rfl⟩ hl.1 (hP.sub [0] rfl) 0 rfl rfl rfl (Nat.le_of_ble_eq_true rfl) dX4_lowest_41 (Nat.zero_le _) (Nat.zero_le _) ?_
        refine z_nm (fun to_2 e_to_2 => ?_)
        have o_to_2 := oth_lt rg false (show i < w * le by omega)
        rw [← e_to_2] at o_to_2
        refine z_if_lt (tgt := 65) C ⟨by omega, by omega⟩ dX4_lowest_44 (by decide) (fun c_44 => ?_) (fun c_44 => ?_)
        · refine z_iconst C dX4_lowest_65 ?_
          refine z_isub C dX4_lowest_66 ?_
          refine lv_istore_n (lv' := [(1, .int (zI (((sm) + (ff i)) - 0))), (3, .int (zI 0)), (0, .ref (a)), (2, .int (zI ((i : Nat) : Int)))]) hx hb dX4_lowest_67 rfl hl (by decide) rfl (fun ls hl => ?_)
          exact J68 ((((sm) + (ff i)) - 0)) (by first | (have h8 := tj_pos (fa := fa) (fl := fl) e_to_2 c_44; omega) | (have h8 := tj_neg (fa := fa) (fl := fl) e_to_2 c_44; omega)) ls (lv_sub hl [1, 0, 2, 3] rfl)
        · refine lv_aload_n hx hb dX4_lowest_47 rfl (lv_at hl 2 rfl) ?_
          refine lv_iload_n hx hb dX4_lowest_48 rfl (lv_at hl 3 rfl) ?_
          refine lv_iload_n hx hb dX4_lowest_49 rfl (lv_at hl 0 rfl) ?_
          refine z_iconst C dX4_lowest_50 ?_
          refine z_icmp_ne (tgt := 58) C ⟨by decide, by decide⟩ ⟨by decide, by decide⟩ dX4_lowest_51 (by decide) (fun _ => ?_) (fun c => absurd c (by decide))
          refine z_iconst C dX4_lowest_58 ?_
          refine z_cV (n := 2) (As := [.int (zI ((i : Nat) : Int)), .int (zI 0)]) (rest := [.int (zI ((sm) + (ff i)))]) C hP (k_X4_j l D dA (a) (w) (le) (rg) (st) (sd) (qa) (ql) (qf) (up) (dn) (fa) (fl) (i) (false) (by first | assumption | omega | rfl)) (lw_V q968 q828 q829 q115 q830) (by decide +kernel) rfl ⟨Nat.le_of_ble_eq_true rfl, Nat.le_of_ble_eq_true rfl⟩ hl.1 (hP.sub [0, 1, 2] rfl) 0 rfl rfl rfl (Nat.le_of_ble_eq_true rfl) dX4_lowest_59 (Nat.zero_le _) (Nat.zero_le _) ?_
          refine lv_goto (tgt := 66) hx hb dX4_lowest_62 (by decide) ?_
          refine z_isub C dX4_lowest_66 ?_
          refine lv_istore_n (lv' := [(1, .int (zI (((sm) + (ff i)) - (jw fa fl i false)))), (3, .int (zI 0)), (0, .ref (a)), (2, .int (zI ((i : Nat) : Int)))]) hx hb dX4_lowest_67 rfl hl (by decide) rfl (fun ls hl => ?_)
          exact J68 ((((sm) + (ff i)) - (jw fa fl i false))) (by first | (have h8 := tj_pos (fa := fa) (fl := fl) e_to_2 c_44; omega) | (have h8 := tj_neg (fa := fa) (fl := fl) e_to_2 c_44; omega)) ls (lv_sub hl [1, 0, 2, 3] rfl)
  exact L4 ((w * le - 0) + 1) (0) (0) (by first | assumption | omega | rfl) rfl (by omega) ls (lv_sub hl [2, 1, 0] rfl)
set_option maxHeartbeats 4000000 in
set_option maxRecDepth 100000 in
theorem k_X4_broken (l : Launch) (D : va_G) (dA : Nat → ClassId) (a w le rg st sd qa ql qf up dn : Nat) (fa fl : Nat → Int) (s0 : Nat) (hwl : w * le ≤ 16) (hrg : rg < 2147483648) (hs0 : s0 < 2147483648) (ba : ∀ j, -3 ≤ fa j ∧ fa j ≤ 3) (bl : ∀ j, -3 ≤ fl j ∧ fl j ≤ 3) : zM l yX4_broken cX4_broken 6 (some .int) (zRm 2 45) D dA [.ref (a), .int (zI ((s0 : Nat) : Int))] [(a, .inr (4, [.int (zI ((w : Nat) : Int)), .int (zI ((le : Nat) : Int)), .int (zI ((rg : Nat) : Int)), .int (zI ((st : Nat) : Int)), .int (zI ((sd : Nat) : Int)), .ref (qa), .ref (ql), .ref (qf), .int (zI ((up : Nat) : Int)), .int (zI ((dn : Nat) : Int))])), (qa, .inl (dA 3, 16, .inl (fun j => zI (fa j)))), (ql, .inl (dA 3, 16, .inl (fun j => zI (fl j))))] (some (.int (zI ((brkN w le rg fa fl s0 (w * le) : Nat) : Int)))) := by
  refine zM.of (by decide +kernel) rfl ?_
  intro pp ee ss mm args below meth cd Q C hr hlk hQ hP ls hl
  have hx := C.1.1
  have hb := C.1.2.1
  have hl : lv_has ls 6 [(0, .ref (a)), (1, .int (zI ((s0 : Nat) : Int)))] := hl
  refine z_iconst C dX4_broken_0 ?_
  refine lv_istore_n (lv' := [(2, .int (zI 0)), (0, .ref (a)), (1, .int (zI ((s0 : Nat) : Int)))]) hx hb dX4_broken_1 rfl hl (by decide) rfl (fun ls hl => ?_)
  refine z_iconst C dX4_broken_2 ?_
  refine lv_istore_n (lv' := [(3, .int (zI 0)), (2, .int (zI 0)), (0, .ref (a)), (1, .int (zI ((s0 : Nat) : Int)))]) hx hb dX4_broken_3 rfl hl (by decide) rfl (fun ls hl => ?_)
  have L4 : ∀ (N : Nat) (i nn : Nat), (i ≤ w * le) → (nn = brkN w le rg fa fl s0 i) → (w * le - i) < N → ∀ ls : Array Slot, lv_has ls 6 [(0, .ref (a)), (1, .int (zI ((s0 : Nat) : Int))), (2, .int (zI ((nn : Nat) : Int))), (3, .int (zI ((i : Nat) : Int)))] → W pp l ee (zRm 2 45) ss mm args below meth cd ss.heap [] 0 0 Q (F0 mm 4 ls []) := by
    intro N
    induction N with
    | zero => intro i nn _ _ hm; exact absurd hm (Nat.not_lt_zero _)
    | succ N ih4 =>
      intro i nn hi hs hm4 ls hl
      refine lv_iload_n hx hb dX4_broken_4 rfl (lv_at hl 3 rfl) ?_
      refine lv_aload_n hx hb dX4_broken_5 rfl (lv_at hl 0 rfl) ?_
      refine z_cV (n := 0) (As := []) (rest := [.int (zI ((i : Nat) : Int))]) C hP (k_X4_sites l D dA (a) (w) (le) (rg) (st) (sd) (qa) (ql) (qf) (up) (dn)) (lw_V q781 q766 q767 q115 q768) (by decide +kernel) rfl ⟨Nat.le_of_ble_eq_true rfl, Nat.le_of_ble_eq_true rfl⟩ hl.1 (hP.sub [0] rfl) 0 rfl rfl rfl (Nat.le_of_ble_eq_true rfl) dX4_broken_6 (Nat.zero_le _) (Nat.zero_le _) ?_
      refine z_icmp_ge (tgt := 91) C ⟨by omega, by omega⟩ ⟨by omega, by omega⟩ dX4_broken_9 (by decide) (fun c_9 => ?_) (fun c_9 => ?_)
      · refine lv_iload_n hx hb dX4_broken_91 rfl (lv_at hl 2 rfl) ?_
        exact z_iret C hlk hr hQ (by rw [hs]; congr 2; omega) dX4_broken_92
      · have hk : i < w * le := by omega
        have hbn := brkN_le w le rg fa fl s0 i
        refine z_iconst C dX4_broken_12 ?_
        refine lv_istore (lv' := [(4, .int (zI 0)), (0, .ref (a)), (1, .int (zI ((s0 : Nat) : Int))), (2, .int (zI ((nn : Nat) : Int))), (3, .int (zI ((i : Nat) : Int)))]) hx hb dX4_broken_13 hl (by decide) rfl (fun ls hl => ?_)
        refine lv_iload hx hb dX4_broken_15 (lv_at hl 0 rfl) ?_
        refine z_iconst C dX4_broken_17 ?_
        refine z_icmp_ge (tgt := 85) C ⟨by decide, by decide⟩ ⟨by decide, by decide⟩ dX4_broken_18 (by decide) (fun c => absurd c (by decide)) (fun _ => ?_)
        have J79 : ∀ (n2 : Nat), (n2 = brkN w le rg fa fl s0 i + bkT w le rg fa fl s0 i false) → ∀ ls : Array Slot, lv_has ls 6 [(4, .int (zI 0)), (0, .ref (a)), (1, .int (zI ((s0 : Nat) : Int))), (2, .int (zI ((n2 : Nat) : Int))), (3, .int (zI ((i : Nat) : Int)))] → W pp l ee (zRm 2 45) ss mm args below meth cd ss.heap [] 0 0 Q (F0 mm 79 ls []) := by
          intro n2 hs2 ls hl
          refine lv_iinc (v := zI 1) (lv' := [(4, .int (zI 1)), (0, .ref (a)), (1, .int (zI ((s0 : Nat) : Int))), (2, .int (zI ((n2 : Nat) : Int))), (3, .int (zI ((i : Nat) : Int)))]) hx hb dX4_broken_79 hl (k := 0) rfl (zI_inc (by omega)) (by decide) rfl (fun ls hl => ?_)
          refine lv_goto (tgt := 15) hx hb dX4_broken_82 (by decide) ?_
          refine lv_iload hx hb dX4_broken_15 (lv_at hl 0 rfl) ?_
          refine z_iconst C dX4_broken_17 ?_
          refine z_icmp_ge (tgt := 85) C ⟨by decide, by decide⟩ ⟨by decide, by decide⟩ dX4_broken_18 (by decide) (fun c => absurd c (by decide)) (fun _ => ?_)
          have J79 : ∀ (n2 : Nat), (n2 = brkN w le rg fa fl s0 i + bkT w le rg fa fl s0 i false + bkT w le rg fa fl s0 i true) → ∀ ls : Array Slot, lv_has ls 6 [(4, .int (zI 1)), (0, .ref (a)), (1, .int (zI ((s0 : Nat) : Int))), (2, .int (zI ((n2 : Nat) : Int))), (3, .int (zI ((i : Nat) : Int)))] → W pp l ee (zRm 2 45) ss mm args below meth cd ss.heap [] 0 0 Q (F0 mm 79 ls []) := by
            intro n2 hs2 ls hl
            refine lv_iinc (v := zI 2) (lv' := [(4, .int (zI 2)), (0, .ref (a)), (1, .int (zI ((s0 : Nat) : Int))), (2, .int (zI ((n2 : Nat) : Int))), (3, .int (zI ((i : Nat) : Int)))]) hx hb dX4_broken_79 hl (k := 0) rfl (zI_inc (by omega)) (by decide) rfl (fun ls hl => ?_)
            refine lv_goto (tgt := 15) hx hb dX4_broken_82 (by decide) ?_
            refine lv_iload hx hb dX4_broken_15 (lv_at hl 0 rfl) ?_
            refine z_iconst C dX4_broken_17 ?_
            refine z_icmp_ge (tgt := 85) C ⟨by decide, by decide⟩ ⟨by decide, by decide⟩ dX4_broken_18 (by decide) (fun _ => ?_) (fun c => absurd c (by decide))
            refine lv_iinc (v := zI ((i + 1 : Nat) : Int)) (lv' := [(3, .int (zI ((i + 1 : Nat) : Int))), (4, .int (zI 2)), (0, .ref (a)), (1, .int (zI ((s0 : Nat) : Int))), (2, .int (zI ((n2 : Nat) : Int)))]) hx hb dX4_broken_85 hl (k := 4) rfl (zI_inc (by omega)) (by decide) rfl (fun ls hl => ?_)
            refine lv_goto (tgt := 4) hx hb dX4_broken_88 (by decide) ?_
            exact ih4 (i + 1) (n2) (by first | assumption | omega | rfl) (by simp only [brkN]; omega) (by omega) ls (lv_sub hl [2, 3, 4, 0] rfl)
          refine lv_aload_n hx hb dX4_broken_21 rfl (lv_at hl 1 rfl) ?_
          refine lv_iload_n hx hb dX4_broken_22 rfl (lv_at hl 4 rfl) ?_
          refine lv_iload hx hb dX4_broken_23 (lv_at hl 0 rfl) ?_
          refine z_iconst C dX4_broken_25 ?_
          refine z_icmp_ne (tgt := 33) C ⟨by decide, by decide⟩ ⟨by decide, by decide⟩ dX4_broken_26 (by decide) (fun c => absurd c (by decide)) (fun _ => ?_)
          refine z_iconst C dX4_broken_29 ?_
          refine lv_goto (tgt := 34) hx hb dX4_broken_30 (by decide) ?_
          refine z_cV (n := 2) (As := [.int (zI ((i : Nat) : Int)), .int (zI 1)]) (rest := []) C hP (k_X4_other l D dA (a) (w) (le) (rg) (st) (sd) (qa) (ql) (qf) (up) (dn) (i) (true) (by first | assumption | omega | rfl) (by first | assumption | omega | rfl) (by first | assumption | omega | rfl)) (lw_V q967 q784 q785 q115 q786) (by decide +kernel) rfl ⟨Nat.le_of_ble_eq_true rfl, Nat.le_of_ble_eq_true rfl⟩ hl.1 (hP.sub [0] rfl) 0 rfl rfl rfl (Nat.le_of_ble_eq_true rfl) dX4_broken_34 (Nat.zero_le _) (Nat.zero_le _) ?_
          refine z_nm (fun to_1 e_to_1 => ?_)
          have o_to_1 := oth_lt rg true (show i < w * le by omega)
          rw [← e_to_1] at o_to_1
          refine lv_istore (lv' := [(5, .int (zI (to_1))), (4, .int (zI 1)), (0, .ref (a)), (1, .int (zI ((s0 : Nat) : Int))), (2, .int (zI ((n2 : Nat) : Int))), (3, .int (zI ((i : Nat) : Int)))]) hx hb dX4_broken_37 hl (by decide) rfl (fun ls hl => ?_)
          refine lv_iload hx hb dX4_broken_39 (lv_at hl 0 rfl) ?_
          refine z_if_lt (tgt := 79) C ⟨by omega, by omega⟩ dX4_broken_41 (by decide) (fun c_41 => ?_) (fun c_41 => ?_)
          · exact J79 (n2) (by first | (have h8 := bkT_neg (fa := fa) (fl := fl) (s := s0) e_to_1 c_41; omega) | (rw [e_jj_none, e_s1_none, e_s2_none] at c_73; first | (have h8 := bkT_0 (fa := fa) (fl := fl) (s := s0) e_to_1 c_73; omega) | (have h8 := bkT_1 (fa := fa) (fl := fl) (s := s0) e_to_1 c_73; omega))) ls (lv_sub hl [1, 2, 3, 4, 5] rfl)
          · obtain ⟨to_1n, rfl⟩ : ∃ q : Nat, to_1 = (q : Int) := ⟨to_1.toNat, by omega⟩
            refine lv_aload_n hx hb dX4_broken_44 rfl (lv_at hl 2 rfl) ?_
            refine lv_iload_n hx hb dX4_broken_45 rfl (lv_at hl 5 rfl) ?_
            refine lv_iload hx hb dX4_broken_46 (lv_at hl 1 rfl) ?_
            refine z_iconst C dX4_broken_48 ?_
            refine z_icmp_ne (tgt := 56) C ⟨by decide, by decide⟩ ⟨by decide, by decide⟩ dX4_broken_49 (by decide) (fun c => absurd c (by decide)) (fun _ => ?_)
            refine z_iconst C dX4_broken_52 ?_
            refine lv_goto (tgt := 57) hx hb dX4_broken_53 (by decide) ?_
            refine z_cV (n := 2) (As := [.int (zI ((i : Nat) : Int)), .int (zI 1)]) (rest := []) C hP (k_X4_j l D dA (a) (w) (le) (rg) (st) (sd) (qa) (ql) (qf) (up) (dn) (fa) (fl) (i) (true) (by first | assumption | omega | rfl)) (lw_V q968 q828 q829 q115 q830) (by decide +kernel) rfl ⟨Nat.le_of_ble_eq_true rfl, Nat.le_of_ble_eq_true rfl⟩ hl.1 (hP.sub [0, 1, 2] rfl) 0 rfl rfl rfl (Nat.le_of_ble_eq_true rfl) dX4_broken_57 (Nat.zero_le _) (Nat.zero_le _) ?_
            refine z_nm (fun jj_2 e_jj_2 => ?_)
            have hj : -3 ≤ jj_2 ∧ jj_2 ≤ 3 := by rw [e_jj_2]; exact jw_b ba bl _ _
            refine lv_iload_n hx hb dX4_broken_60 rfl (lv_at hl 3 rfl) ?_
            refine lv_iload_n hx hb dX4_broken_61 rfl (lv_at hl 5 rfl) ?_
            refine z_cS (n := 2) (As := [.int (zI ((s0 : Nat) : Int)), .int (zI ((i : Nat) : Int))]) (rest := [.int (zI (jj_2))]) C (k_X4_spin l D dA (s0) (i) (by first | assumption | omega | rfl) (by first | assumption | omega | rfl)) (lw_S q977 q978 q115 q979) (by decide +kernel) rfl ⟨Nat.le_of_ble_eq_true rfl, Nat.le_of_ble_eq_true rfl⟩ hl.1 (hP.sub [] rfl) rfl (Nat.le_of_ble_eq_true rfl) dX4_broken_62 (Nat.zero_le _) (Nat.zero_le _) ?_
            refine z_nm (fun s1_3 e_s1_3 => ?_)
            have h1 := spn_cases s0 i
            rw [← e_s1_3] at h1
            refine z_imul C dX4_broken_65 ?_
            refine lv_iload_n hx hb dX4_broken_66 rfl (lv_at hl 3 rfl) ?_
            refine lv_iload hx hb dX4_broken_67 (lv_at hl 0 rfl) ?_
            refine z_cS (n := 2) (As := [.int (zI ((s0 : Nat) : Int)), .int (zI ((to_1n : Nat) : Int))]) (rest := [.int (zI ((jj_2) * (s1_3)))]) C (k_X4_spin l D dA (s0) (to_1n) (by first | assumption | omega | rfl) (by first | assumption | omega | rfl)) (lw_S q977 q978 q115 q979) (by decide +kernel) rfl ⟨Nat.le_of_ble_eq_true rfl, Nat.le_of_ble_eq_true rfl⟩ hl.1 (hP.sub [] rfl) rfl (Nat.le_of_ble_eq_true rfl) dX4_broken_69 (Nat.zero_le _) (Nat.zero_le _) ?_
            refine z_nm (fun s2_4 e_s2_4 => ?_)
            have h2 := spn_cases s0 to_1n
            rw [← e_s2_4] at h2
            have hp : -3 ≤ jj_2 * s1_3 * s2_4 ∧ jj_2 * s1_3 * s2_4 ≤ 3 := by rcases h1 with q | q <;> rcases h2 with q2 | q2 <;> rw [q, q2] <;> omega
            refine z_imul C dX4_broken_72 ?_
            refine z_if_ge (tgt := 79) C ⟨by omega, by omega⟩ dX4_broken_73 (by decide) (fun c_73 => ?_) (fun c_73 => ?_)
            · exact J79 (n2) (by first | (have h8 := bkT_neg (fa := fa) (fl := fl) (s := s0) e_to_1 c_41; omega) | (rw [e_jj_2, e_s1_3, e_s2_4] at c_73; first | (have h8 := bkT_0 (fa := fa) (fl := fl) (s := s0) e_to_1 c_73; omega) | (have h8 := bkT_1 (fa := fa) (fl := fl) (s := s0) e_to_1 c_73; omega))) ls (lv_sub hl [1, 2, 3, 4, 5] rfl)
            · refine lv_iinc (v := zI ((n2 + 1 : Nat) : Int)) (lv' := [(2, .int (zI ((n2 + 1 : Nat) : Int))), (5, .int (zI ((to_1n : Nat) : Int))), (4, .int (zI 1)), (0, .ref (a)), (1, .int (zI ((s0 : Nat) : Int))), (3, .int (zI ((i : Nat) : Int)))]) hx hb dX4_broken_76 hl (k := 4) rfl (zI_inc (by omega)) (by decide) rfl (fun ls hl => ?_)
              exact J79 (n2 + 1) (by first | (have h8 := bkT_neg (fa := fa) (fl := fl) (s := s0) e_to_1 c_41; omega) | (rw [e_jj_2, e_s1_3, e_s2_4] at c_73; first | (have h8 := bkT_0 (fa := fa) (fl := fl) (s := s0) e_to_1 c_73; omega) | (have h8 := bkT_1 (fa := fa) (fl := fl) (s := s0) e_to_1 c_73; omega))) ls (lv_sub hl [2, 3, 4, 0, 5] rfl)
        refine lv_aload_n hx hb dX4_broken_21 rfl (lv_at hl 1 rfl) ?_
        refine lv_iload_n hx hb dX4_broken_22 rfl (lv_at hl 4 rfl) ?_
        refine lv_iload hx hb dX4_broken_23 (lv_at hl 0 rfl) ?_
        refine z_iconst C dX4_broken_25 ?_
        refine z_icmp_ne (tgt := 33) C ⟨by decide, by decide⟩ ⟨by decide, by decide⟩ dX4_broken_26 (by decide) (fun _ => ?_) (fun c => absurd c (by decide))
        refine z_iconst C dX4_broken_33 ?_
        refine z_cV (n := 2) (As := [.int (zI ((i : Nat) : Int)), .int (zI 0)]) (rest := []) C hP (k_X4_other l D dA (a) (w) (le) (rg) (st) (sd) (qa) (ql) (qf) (up) (dn) (i) (false) (by first | assumption | omega | rfl) (by first | assumption | omega | rfl) (by first | assumption | omega | rfl)) (lw_V q967 q784 q785 q115 q786) (by decide +kernel) rfl ⟨Nat.le_of_ble_eq_true rfl, Nat.le_of_ble_eq_true rfl⟩ hl.1 (hP.sub [0] rfl) 0 rfl rfl rfl (Nat.le_of_ble_eq_true rfl) dX4_broken_34 (Nat.zero_le _) (Nat.zero_le _) ?_
        refine z_nm (fun to_5 e_to_5 => ?_)
        have o_to_5 := oth_lt rg false (show i < w * le by omega)
        rw [← e_to_5] at o_to_5
        refine lv_istore (lv' := [(5, .int (zI (to_5))), (4, .int (zI 0)), (0, .ref (a)), (1, .int (zI ((s0 : Nat) : Int))), (2, .int (zI ((nn : Nat) : Int))), (3, .int (zI ((i : Nat) : Int)))]) hx hb dX4_broken_37 hl (by decide) rfl (fun ls hl => ?_)
        refine lv_iload hx hb dX4_broken_39 (lv_at hl 0 rfl) ?_
        refine z_if_lt (tgt := 79) C ⟨by omega, by omega⟩ dX4_broken_41 (by decide) (fun c_41 => ?_) (fun c_41 => ?_)
        · exact J79 (nn) (by first | (have h8 := bkT_neg (fa := fa) (fl := fl) (s := s0) e_to_5 c_41; omega) | (rw [e_jj_none, e_s1_none, e_s2_none] at c_73; first | (have h8 := bkT_0 (fa := fa) (fl := fl) (s := s0) e_to_5 c_73; omega) | (have h8 := bkT_1 (fa := fa) (fl := fl) (s := s0) e_to_5 c_73; omega))) ls (lv_sub hl [1, 2, 3, 4, 5] rfl)
        · obtain ⟨to_5n, rfl⟩ : ∃ q : Nat, to_5 = (q : Int) := ⟨to_5.toNat, by omega⟩
          refine lv_aload_n hx hb dX4_broken_44 rfl (lv_at hl 2 rfl) ?_
          refine lv_iload_n hx hb dX4_broken_45 rfl (lv_at hl 5 rfl) ?_
          refine lv_iload hx hb dX4_broken_46 (lv_at hl 1 rfl) ?_
          refine z_iconst C dX4_broken_48 ?_
          refine z_icmp_ne (tgt := 56) C ⟨by decide, by decide⟩ ⟨by decide, by decide⟩ dX4_broken_49 (by decide) (fun _ => ?_) (fun c => absurd c (by decide))
          refine z_iconst C dX4_broken_56 ?_
          refine z_cV (n := 2) (As := [.int (zI ((i : Nat) : Int)), .int (zI 0)]) (rest := []) C hP (k_X4_j l D dA (a) (w) (le) (rg) (st) (sd) (qa) (ql) (qf) (up) (dn) (fa) (fl) (i) (false) (by first | assumption | omega | rfl)) (lw_V q968 q828 q829 q115 q830) (by decide +kernel) rfl ⟨Nat.le_of_ble_eq_true rfl, Nat.le_of_ble_eq_true rfl⟩ hl.1 (hP.sub [0, 1, 2] rfl) 0 rfl rfl rfl (Nat.le_of_ble_eq_true rfl) dX4_broken_57 (Nat.zero_le _) (Nat.zero_le _) ?_
          refine z_nm (fun jj_6 e_jj_6 => ?_)
          have hj : -3 ≤ jj_6 ∧ jj_6 ≤ 3 := by rw [e_jj_6]; exact jw_b ba bl _ _
          refine lv_iload_n hx hb dX4_broken_60 rfl (lv_at hl 3 rfl) ?_
          refine lv_iload_n hx hb dX4_broken_61 rfl (lv_at hl 5 rfl) ?_
          refine z_cS (n := 2) (As := [.int (zI ((s0 : Nat) : Int)), .int (zI ((i : Nat) : Int))]) (rest := [.int (zI (jj_6))]) C (k_X4_spin l D dA (s0) (i) (by first | assumption | omega | rfl) (by first | assumption | omega | rfl)) (lw_S q977 q978 q115 q979) (by decide +kernel) rfl ⟨Nat.le_of_ble_eq_true rfl, Nat.le_of_ble_eq_true rfl⟩ hl.1 (hP.sub [] rfl) rfl (Nat.le_of_ble_eq_true rfl) dX4_broken_62 (Nat.zero_le _) (Nat.zero_le _) ?_
          refine z_nm (fun s1_7 e_s1_7 => ?_)
          have h1 := spn_cases s0 i
          rw [← e_s1_7] at h1
          refine z_imul C dX4_broken_65 ?_
          refine lv_iload_n hx hb dX4_broken_66 rfl (lv_at hl 3 rfl) ?_
          refine lv_iload hx hb dX4_broken_67 (lv_at hl 0 rfl) ?_
          refine z_cS (n := 2) (As := [.int (zI ((s0 : Nat) : Int)), .int (zI ((to_5n : Nat) : Int))]) (rest := [.int (zI ((jj_6) * (s1_7)))]) C (k_X4_spin l D dA (s0) (to_5n) (by first | assumption | omega | rfl) (by first | assumption | omega | rfl)) (lw_S q977 q978 q115 q979) (by decide +kernel) rfl ⟨Nat.le_of_ble_eq_true rfl, Nat.le_of_ble_eq_true rfl⟩ hl.1 (hP.sub [] rfl) rfl (Nat.le_of_ble_eq_true rfl) dX4_broken_69 (Nat.zero_le _) (Nat.zero_le _) ?_
          refine z_nm (fun s2_8 e_s2_8 => ?_)
          have h2 := spn_cases s0 to_5n
          rw [← e_s2_8] at h2
          have hp : -3 ≤ jj_6 * s1_7 * s2_8 ∧ jj_6 * s1_7 * s2_8 ≤ 3 := by rcases h1 with q | q <;> rcases h2 with q2 | q2 <;> rw [q, q2] <;> omega
          refine z_imul C dX4_broken_72 ?_
          refine z_if_ge (tgt := 79) C ⟨by omega, by omega⟩ dX4_broken_73 (by decide) (fun c_73 => ?_) (fun c_73 => ?_)
          · exact J79 (nn) (by first | (have h8 := bkT_neg (fa := fa) (fl := fl) (s := s0) e_to_5 c_41; omega) | (rw [e_jj_6, e_s1_7, e_s2_8] at c_73; first | (have h8 := bkT_0 (fa := fa) (fl := fl) (s := s0) e_to_5 c_73; omega) | (have h8 := bkT_1 (fa := fa) (fl := fl) (s := s0) e_to_5 c_73; omega))) ls (lv_sub hl [1, 2, 3, 4, 5] rfl)
          · refine lv_iinc (v := zI ((nn + 1 : Nat) : Int)) (lv' := [(2, .int (zI ((nn + 1 : Nat) : Int))), (5, .int (zI ((to_5n : Nat) : Int))), (4, .int (zI 0)), (0, .ref (a)), (1, .int (zI ((s0 : Nat) : Int))), (3, .int (zI ((i : Nat) : Int)))]) hx hb dX4_broken_76 hl (k := 4) rfl (zI_inc (by omega)) (by decide) rfl (fun ls hl => ?_)
            exact J79 (nn + 1) (by first | (have h8 := bkT_neg (fa := fa) (fl := fl) (s := s0) e_to_5 c_41; omega) | (rw [e_jj_6, e_s1_7, e_s2_8] at c_73; first | (have h8 := bkT_0 (fa := fa) (fl := fl) (s := s0) e_to_5 c_73; omega) | (have h8 := bkT_1 (fa := fa) (fl := fl) (s := s0) e_to_5 c_73; omega))) ls (lv_sub hl [2, 3, 4, 0, 5] rfl)
  exact L4 ((w * le - 0) + 1) (0) (0) (by first | assumption | omega | rfl) rfl (by omega) ls (lv_sub hl [2, 3, 1, 0] rfl)
set_option maxHeartbeats 4000000 in
set_option maxRecDepth 100000 in
theorem k_X4_square (l : Launch) (D : va_G) (dA : Nat → ClassId) (a w le rg st sd qa ql qf up dn : Nat) (fa fl : Nat → Int) (k : Nat) (hwl : w * le ≤ 16) (hrg : rg < 2147483648) (hk : k < w * le) (ba : ∀ j, -3 ≤ fa j ∧ fa j ≤ 3) (bl : ∀ j, -3 ≤ fl j ∧ fl j ≤ 3) : zM l yX4_square cX4_square 5 (some .int) (zRm 2 45) D dA [.ref (a), .int (zI ((k : Nat) : Int))] [(a, .inr (4, [.int (zI ((w : Nat) : Int)), .int (zI ((le : Nat) : Int)), .int (zI ((rg : Nat) : Int)), .int (zI ((st : Nat) : Int)), .int (zI ((sd : Nat) : Int)), .ref (qa), .ref (ql), .ref (qf), .int (zI ((up : Nat) : Int)), .int (zI ((dn : Nat) : Int))])), (qa, .inl (dA 3, 16, .inl (fun j => zI (fa j)))), (ql, .inl (dA 3, 16, .inl (fun j => zI (fl j))))] (some (.int (zI (sqr w le rg fa fl k)))) := by
  refine zM.of (by decide +kernel) rfl ?_
  intro pp ee ss mm args below meth cd Q C hr hlk hQ hP ls hl
  have hx := C.1.1
  have hb := C.1.2.1
  have hl : lv_has ls 5 [(0, .ref (a)), (1, .int (zI ((k : Nat) : Int)))] := hl
  refine lv_aload_n hx hb dX4_square_0 rfl (lv_at hl 0 rfl) ?_
  refine lv_iload_n hx hb dX4_square_1 rfl (lv_at hl 1 rfl) ?_
  refine z_iconst C dX4_square_2 ?_
  refine z_cV (n := 2) (As := [.int (zI ((k : Nat) : Int)), .int (zI 0)]) (rest := []) C hP (k_X4_other l D dA (a) (w) (le) (rg) (st) (sd) (qa) (ql) (qf) (up) (dn) (k) (false) (by first | assumption | omega | rfl) (by first | assumption | omega | rfl) (by first | assumption | omega | rfl)) (lw_V q967 q784 q785 q115 q786) (by decide +kernel) rfl ⟨Nat.le_of_ble_eq_true rfl, Nat.le_of_ble_eq_true rfl⟩ hl.1 (hP.sub [0] rfl) 0 rfl rfl rfl (Nat.le_of_ble_eq_true rfl) dX4_square_3 (Nat.zero_le _) (Nat.zero_le _) ?_
  refine z_nm (fun ri_1 e_ri_1 => ?_)
  have o_ri_1 := oth_lt rg false hk
  rw [← e_ri_1] at o_ri_1
  refine lv_istore_n (lv' := [(2, .int (zI (ri_1))), (0, .ref (a)), (1, .int (zI ((k : Nat) : Int)))]) hx hb dX4_square_6 rfl hl (by decide) rfl (fun ls hl => ?_)
  refine lv_aload_n hx hb dX4_square_7 rfl (lv_at hl 1 rfl) ?_
  refine lv_iload_n hx hb dX4_square_8 rfl (lv_at hl 2 rfl) ?_
  refine z_iconst C dX4_square_9 ?_
  refine z_cV (n := 2) (As := [.int (zI ((k : Nat) : Int)), .int (zI 1)]) (rest := []) C hP (k_X4_other l D dA (a) (w) (le) (rg) (st) (sd) (qa) (ql) (qf) (up) (dn) (k) (true) (by first | assumption | omega | rfl) (by first | assumption | omega | rfl) (by first | assumption | omega | rfl)) (lw_V q967 q784 q785 q115 q786) (by decide +kernel) rfl ⟨Nat.le_of_ble_eq_true rfl, Nat.le_of_ble_eq_true rfl⟩ hl.1 (hP.sub [0] rfl) 0 rfl rfl rfl (Nat.le_of_ble_eq_true rfl) dX4_square_10 (Nat.zero_le _) (Nat.zero_le _) ?_
  refine z_nm (fun bl__2 e_bl__2 => ?_)
  have o_bl__2 := oth_lt rg true hk
  rw [← e_bl__2] at o_bl__2
  refine lv_istore_n (lv' := [(3, .int (zI (bl__2))), (2, .int (zI (ri_1))), (0, .ref (a)), (1, .int (zI ((k : Nat) : Int)))]) hx hb dX4_square_13 rfl hl (by decide) rfl (fun ls hl => ?_)
  refine lv_iload_n hx hb dX4_square_14 rfl (lv_at hl 1 rfl) ?_
  refine z_if_lt (tgt := 22) C ⟨by omega, by omega⟩ dX4_square_15 (by decide) (fun c_15 => ?_) (fun c_15 => ?_)
  · refine z_bipush C dX4_square_22 rfl ?_
    exact z_iret C hlk hr hQ (by rw [sqr_out e_ri_1 e_bl__2 (by omega)]) dX4_square_24
  · refine lv_iload_n hx hb dX4_square_18 rfl (lv_at hl 0 rfl) ?_
    refine z_if_ge (tgt := 25) C ⟨by omega, by omega⟩ dX4_square_19 (by decide) (fun c_19 => ?_) (fun c_19 => ?_)
    · obtain ⟨ri_1n, rfl⟩ : ∃ q : Nat, ri_1 = (q : Int) := ⟨ri_1.toNat, by omega⟩
      obtain ⟨bl__2n, rfl⟩ : ∃ q : Nat, bl__2 = (q : Int) := ⟨bl__2.toNat, by omega⟩
      refine lv_aload_n hx hb dX4_square_25 rfl (lv_at hl 2 rfl) ?_
      refine z_get C hP 0 rfl rfl in_X4 5 (by decide) q311 rfl dX4_square_26 ?_
      refine lv_iload_n hx hb dX4_square_29 rfl (lv_at hl 3 rfl) ?_
      refine z_iald C hP 1 rfl (k) rfl (by omega) (by decide) dX4_square_30 ?_
      refine lv_aload_n hx hb dX4_square_31 rfl (lv_at hl 2 rfl) ?_
      refine z_get C hP 0 rfl rfl in_X4 6 (by decide) q314 rfl dX4_square_32 ?_
      refine lv_iload_n hx hb dX4_square_35 rfl (lv_at hl 3 rfl) ?_
      refine z_iald C hP 2 rfl (k) rfl (by omega) (by decide) dX4_square_36 ?_
      refine z_imul C dX4_square_37 ?_
      refine lv_aload_n hx hb dX4_square_38 rfl (lv_at hl 2 rfl) ?_
      refine z_get C hP 0 rfl rfl in_X4 5 (by decide) q311 rfl dX4_square_39 ?_
      refine lv_iload_n hx hb dX4_square_42 rfl (lv_at hl 0 rfl) ?_
      refine z_iald C hP 1 rfl (bl__2n) rfl (by omega) (by decide) dX4_square_43 ?_
      refine z_imul C dX4_square_44 ?_
      refine lv_aload_n hx hb dX4_square_45 rfl (lv_at hl 2 rfl) ?_
      refine z_get C hP 0 rfl rfl in_X4 6 (by decide) q314 rfl dX4_square_46 ?_
      refine lv_iload_n hx hb dX4_square_49 rfl (lv_at hl 1 rfl) ?_
      refine z_iald C hP 2 rfl (ri_1n) rfl (by omega) (by decide) dX4_square_50 ?_
      refine z_imul C dX4_square_51 ?_
      have hp := mul3 (mul3 (mul3 (ba k) (bl k)) (ba bl__2n)) (bl ri_1n)
      refine lv_istore (lv' := [(4, .int (zI ((((fa k) * (fl k)) * (fa bl__2n)) * (fl ri_1n)))), (3, .int (zI ((bl__2n : Nat) : Int))), (2, .int (zI ((ri_1n : Nat) : Int))), (0, .ref (a)), (1, .int (zI ((k : Nat) : Int)))]) hx hb dX4_square_52 hl (by decide) rfl (fun ls hl => ?_)
      refine lv_iload hx hb dX4_square_54 (lv_at hl 0 rfl) ?_
      refine z_if_ge (tgt := 63) C ⟨by omega, by omega⟩ dX4_square_56 (by decide) (fun c_56 => ?_) (fun c_56 => ?_)
      · refine z_iconst C dX4_square_63 ?_
        exact z_iret C hlk hr hQ (by rw [sqr_in e_ri_1 e_bl__2]; first | (rw [if_neg (by omega)]; done) | (rw [if_pos (by omega)]; done)) dX4_square_64
      · refine z_iconst C dX4_square_59 ?_
        refine lv_goto (tgt := 64) hx hb dX4_square_60 (by decide) ?_
        exact z_iret C hlk hr hQ (by rw [sqr_in e_ri_1 e_bl__2]; first | (rw [if_neg (by omega)]; done) | (rw [if_pos (by omega)]; done)) dX4_square_64
    · refine z_bipush C dX4_square_22 rfl ?_
      exact z_iret C hlk hr hQ (by rw [sqr_out e_ri_1 e_bl__2 (by omega)]) dX4_square_24
set_option maxHeartbeats 4000000 in
set_option maxRecDepth 100000 in
theorem k_X4_tieMany (l : Launch) (D : va_G) (dA : Nat → ClassId) (a w le rg st sd qa ql qf up dn : Nat) (hwl : w * le ≤ 16) (hrg : rg < 2147483648) : zM l yX4_tieMany cX4_tieMany 4 (some .int) (zRm 2 45) D dA [.ref (a)] [(a, .inr (4, [.int (zI ((w : Nat) : Int)), .int (zI ((le : Nat) : Int)), .int (zI ((rg : Nat) : Int)), .int (zI ((st : Nat) : Int)), .int (zI ((sd : Nat) : Int)), .ref (qa), .ref (ql), .ref (qf), .int (zI ((up : Nat) : Int)), .int (zI ((dn : Nat) : Int))]))] (some (.int (zI ((tieN w le rg (w * le) : Nat) : Int)))) := by
  refine zM.of (by decide +kernel) rfl ?_
  intro pp ee ss mm args below meth cd Q C hr hlk hQ hP ls hl
  have hx := C.1.1
  have hb := C.1.2.1
  have hl : lv_has ls 4 [(0, .ref (a))] := hl
  refine z_iconst C dX4_tieMany_0 ?_
  refine lv_istore_n (lv' := [(1, .int (zI 0)), (0, .ref (a))]) hx hb dX4_tieMany_1 rfl hl (by decide) rfl (fun ls hl => ?_)
  refine z_iconst C dX4_tieMany_2 ?_
  refine lv_istore_n (lv' := [(2, .int (zI 0)), (1, .int (zI 0)), (0, .ref (a))]) hx hb dX4_tieMany_3 rfl hl (by decide) rfl (fun ls hl => ?_)
  have L4 : ∀ (N : Nat) (i nn : Nat), (i ≤ w * le) → (nn = tieN w le rg i) → (w * le - i) < N → ∀ ls : Array Slot, lv_has ls 4 [(0, .ref (a)), (1, .int (zI ((nn : Nat) : Int))), (2, .int (zI ((i : Nat) : Int)))] → W pp l ee (zRm 2 45) ss mm args below meth cd ss.heap [] 0 0 Q (F0 mm 4 ls []) := by
    intro N
    induction N with
    | zero => intro i nn _ _ hm; exact absurd hm (Nat.not_lt_zero _)
    | succ N ih4 =>
      intro i nn hi hs hm4 ls hl
      refine lv_iload_n hx hb dX4_tieMany_4 rfl (lv_at hl 2 rfl) ?_
      refine lv_aload_n hx hb dX4_tieMany_5 rfl (lv_at hl 0 rfl) ?_
      refine z_cV (n := 0) (As := []) (rest := [.int (zI ((i : Nat) : Int))]) C hP (k_X4_sites l D dA (a) (w) (le) (rg) (st) (sd) (qa) (ql) (qf) (up) (dn)) (lw_V q781 q766 q767 q115 q768) (by decide +kernel) rfl ⟨Nat.le_of_ble_eq_true rfl, Nat.le_of_ble_eq_true rfl⟩ hl.1 (hP.sub [0] rfl) 0 rfl rfl rfl (Nat.le_of_ble_eq_true rfl) dX4_tieMany_6 (Nat.zero_le _) (Nat.zero_le _) ?_
      refine z_icmp_ge (tgt := 57) C ⟨by omega, by omega⟩ ⟨by omega, by omega⟩ dX4_tieMany_9 (by decide) (fun c_9 => ?_) (fun c_9 => ?_)
      · refine lv_iload_n hx hb dX4_tieMany_57 rfl (lv_at hl 1 rfl) ?_
        exact z_iret C hlk hr hQ (by rw [hs]; congr 2; omega) dX4_tieMany_58
      · have hk : i < w * le := by omega
        refine z_iconst C dX4_tieMany_12 ?_
        refine lv_istore_n (lv' := [(3, .int (zI 0)), (0, .ref (a)), (1, .int (zI ((nn : Nat) : Int))), (2, .int (zI ((i : Nat) : Int)))]) hx hb dX4_tieMany_13 rfl hl (by decide) rfl (fun ls hl => ?_)
        refine lv_iload_n hx hb dX4_tieMany_14 rfl (lv_at hl 0 rfl) ?_
        refine z_iconst C dX4_tieMany_15 ?_
        refine z_icmp_ge (tgt := 51) C ⟨by decide, by decide⟩ ⟨by decide, by decide⟩ dX4_tieMany_16 (by decide) (fun c => absurd c (by decide)) (fun _ => ?_)
        have J45 : ∀ (n2 : Nat), (n2 = tieN w le rg i + tiT w le rg i false) → ∀ ls : Array Slot, lv_has ls 4 [(3, .int (zI 0)), (0, .ref (a)), (1, .int (zI ((n2 : Nat) : Int))), (2, .int (zI ((i : Nat) : Int)))] → W pp l ee (zRm 2 45) ss mm args below meth cd ss.heap [] 0 0 Q (F0 mm 45 ls []) := by
          intro n2 hs2 ls hl
          refine lv_iinc (v := zI 1) (lv' := [(3, .int (zI 1)), (0, .ref (a)), (1, .int (zI ((n2 : Nat) : Int))), (2, .int (zI ((i : Nat) : Int)))]) hx hb dX4_tieMany_45 hl (k := 0) rfl (zI_inc (by omega)) (by decide) rfl (fun ls hl => ?_)
          refine lv_goto (tgt := 14) hx hb dX4_tieMany_48 (by decide) ?_
          refine lv_iload_n hx hb dX4_tieMany_14 rfl (lv_at hl 0 rfl) ?_
          refine z_iconst C dX4_tieMany_15 ?_
          refine z_icmp_ge (tgt := 51) C ⟨by decide, by decide⟩ ⟨by decide, by decide⟩ dX4_tieMany_16 (by decide) (fun c => absurd c (by decide)) (fun _ => ?_)
          have J45 : ∀ (n2 : Nat), (n2 = tieN w le rg i + tiT w le rg i false + tiT w le rg i true) → ∀ ls : Array Slot, lv_has ls 4 [(3, .int (zI 1)), (0, .ref (a)), (1, .int (zI ((n2 : Nat) : Int))), (2, .int (zI ((i : Nat) : Int)))] → W pp l ee (zRm 2 45) ss mm args below meth cd ss.heap [] 0 0 Q (F0 mm 45 ls []) := by
            intro n2 hs2 ls hl
            refine lv_iinc (v := zI 2) (lv' := [(3, .int (zI 2)), (0, .ref (a)), (1, .int (zI ((n2 : Nat) : Int))), (2, .int (zI ((i : Nat) : Int)))]) hx hb dX4_tieMany_45 hl (k := 0) rfl (zI_inc (by omega)) (by decide) rfl (fun ls hl => ?_)
            refine lv_goto (tgt := 14) hx hb dX4_tieMany_48 (by decide) ?_
            refine lv_iload_n hx hb dX4_tieMany_14 rfl (lv_at hl 0 rfl) ?_
            refine z_iconst C dX4_tieMany_15 ?_
            refine z_icmp_ge (tgt := 51) C ⟨by decide, by decide⟩ ⟨by decide, by decide⟩ dX4_tieMany_16 (by decide) (fun _ => ?_) (fun c => absurd c (by decide))
            refine lv_iinc (v := zI ((i + 1 : Nat) : Int)) (lv' := [(2, .int (zI ((i + 1 : Nat) : Int))), (3, .int (zI 2)), (0, .ref (a)), (1, .int (zI ((n2 : Nat) : Int)))]) hx hb dX4_tieMany_51 hl (k := 3) rfl (zI_inc (by omega)) (by decide) rfl (fun ls hl => ?_)
            refine lv_goto (tgt := 4) hx hb dX4_tieMany_54 (by decide) ?_
            exact ih4 (i + 1) (n2) (by first | assumption | omega | rfl) (by simp only [tieN]; omega) (by omega) ls (lv_sub hl [2, 3, 0] rfl)
          refine lv_iload_n hx hb dX4_tieMany_19 rfl (lv_at hl 2 rfl) ?_
          refine lv_aload_n hx hb dX4_tieMany_20 rfl (lv_at hl 1 rfl) ?_
          refine lv_iload_n hx hb dX4_tieMany_21 rfl (lv_at hl 3 rfl) ?_
          refine lv_iload_n hx hb dX4_tieMany_22 rfl (lv_at hl 0 rfl) ?_
          refine z_iconst C dX4_tieMany_23 ?_
          refine z_icmp_ne (tgt := 31) C ⟨by decide, by decide⟩ ⟨by decide, by decide⟩ dX4_tieMany_24 (by decide) (fun c => absurd c (by decide)) (fun _ => ?_)
          refine z_iconst C dX4_tieMany_27 ?_
          refine lv_goto (tgt := 32) hx hb dX4_tieMany_28 (by decide) ?_
          refine z_cV (n := 2) (As := [.int (zI ((i : Nat) : Int)), .int (zI 1)]) (rest := [.int (zI ((n2 : Nat) : Int))]) C hP (k_X4_other l D dA (a) (w) (le) (rg) (st) (sd) (qa) (ql) (qf) (up) (dn) (i) (true) (by first | assumption | omega | rfl) (by first | assumption | omega | rfl) (by first | assumption | omega | rfl)) (lw_V q967 q784 q785 q115 q786) (by decide +kernel) rfl ⟨Nat.le_of_ble_eq_true rfl, Nat.le_of_ble_eq_true rfl⟩ hl.1 (hP.sub [0] rfl) 0 rfl rfl rfl (Nat.le_of_ble_eq_true rfl) dX4_tieMany_32 (Nat.zero_le _) (Nat.zero_le _) ?_
          refine z_nm (fun to_1 e_to_1 => ?_)
          have o_to_1 := oth_lt rg true (show i < w * le by omega)
          rw [← e_to_1] at o_to_1
          refine z_if_lt (tgt := 42) C ⟨by omega, by omega⟩ dX4_tieMany_35 (by decide) (fun c_35 => ?_) (fun c_35 => ?_)
          · refine z_iconst C dX4_tieMany_42 ?_
            refine z_iaddN C (n2) (0) rfl rfl dX4_tieMany_43 ?_
            refine lv_istore_n (lv' := [(1, .int (zI (((n2 + 0) : Nat) : Int))), (3, .int (zI 1)), (0, .ref (a)), (2, .int (zI ((i : Nat) : Int)))]) hx hb dX4_tieMany_44 rfl hl (by decide) rfl (fun ls hl => ?_)
            exact J45 ((n2 + 0)) (by first | (have h8 := tiT_pos e_to_1 c_35; omega) | (have h8 := tiT_neg e_to_1 c_35; omega)) ls (lv_sub hl [1, 2, 0, 3] rfl)
          · refine z_iconst C dX4_tieMany_38 ?_
            refine lv_goto (tgt := 43) hx hb dX4_tieMany_39 (by decide) ?_
            refine z_iaddN C (n2) (1) rfl rfl dX4_tieMany_43 ?_
            refine lv_istore_n (lv' := [(1, .int (zI (((n2 + 1) : Nat) : Int))), (3, .int (zI 1)), (0, .ref (a)), (2, .int (zI ((i : Nat) : Int)))]) hx hb dX4_tieMany_44 rfl hl (by decide) rfl (fun ls hl => ?_)
            exact J45 ((n2 + 1)) (by first | (have h8 := tiT_pos e_to_1 c_35; omega) | (have h8 := tiT_neg e_to_1 c_35; omega)) ls (lv_sub hl [1, 2, 0, 3] rfl)
        refine lv_iload_n hx hb dX4_tieMany_19 rfl (lv_at hl 2 rfl) ?_
        refine lv_aload_n hx hb dX4_tieMany_20 rfl (lv_at hl 1 rfl) ?_
        refine lv_iload_n hx hb dX4_tieMany_21 rfl (lv_at hl 3 rfl) ?_
        refine lv_iload_n hx hb dX4_tieMany_22 rfl (lv_at hl 0 rfl) ?_
        refine z_iconst C dX4_tieMany_23 ?_
        refine z_icmp_ne (tgt := 31) C ⟨by decide, by decide⟩ ⟨by decide, by decide⟩ dX4_tieMany_24 (by decide) (fun _ => ?_) (fun c => absurd c (by decide))
        refine z_iconst C dX4_tieMany_31 ?_
        refine z_cV (n := 2) (As := [.int (zI ((i : Nat) : Int)), .int (zI 0)]) (rest := [.int (zI ((nn : Nat) : Int))]) C hP (k_X4_other l D dA (a) (w) (le) (rg) (st) (sd) (qa) (ql) (qf) (up) (dn) (i) (false) (by first | assumption | omega | rfl) (by first | assumption | omega | rfl) (by first | assumption | omega | rfl)) (lw_V q967 q784 q785 q115 q786) (by decide +kernel) rfl ⟨Nat.le_of_ble_eq_true rfl, Nat.le_of_ble_eq_true rfl⟩ hl.1 (hP.sub [0] rfl) 0 rfl rfl rfl (Nat.le_of_ble_eq_true rfl) dX4_tieMany_32 (Nat.zero_le _) (Nat.zero_le _) ?_
        refine z_nm (fun to_2 e_to_2 => ?_)
        have o_to_2 := oth_lt rg false (show i < w * le by omega)
        rw [← e_to_2] at o_to_2
        refine z_if_lt (tgt := 42) C ⟨by omega, by omega⟩ dX4_tieMany_35 (by decide) (fun c_35 => ?_) (fun c_35 => ?_)
        · refine z_iconst C dX4_tieMany_42 ?_
          refine z_iaddN C (nn) (0) rfl rfl dX4_tieMany_43 ?_
          refine lv_istore_n (lv' := [(1, .int (zI (((nn + 0) : Nat) : Int))), (3, .int (zI 0)), (0, .ref (a)), (2, .int (zI ((i : Nat) : Int)))]) hx hb dX4_tieMany_44 rfl hl (by decide) rfl (fun ls hl => ?_)
          exact J45 ((nn + 0)) (by first | (have h8 := tiT_pos e_to_2 c_35; omega) | (have h8 := tiT_neg e_to_2 c_35; omega)) ls (lv_sub hl [1, 2, 0, 3] rfl)
        · refine z_iconst C dX4_tieMany_38 ?_
          refine lv_goto (tgt := 43) hx hb dX4_tieMany_39 (by decide) ?_
          refine z_iaddN C (nn) (1) rfl rfl dX4_tieMany_43 ?_
          refine lv_istore_n (lv' := [(1, .int (zI (((nn + 1) : Nat) : Int))), (3, .int (zI 0)), (0, .ref (a)), (2, .int (zI ((i : Nat) : Int)))]) hx hb dX4_tieMany_44 rfl hl (by decide) rfl (fun ls hl => ?_)
          exact J45 ((nn + 1)) (by first | (have h8 := tiT_pos e_to_2 c_35; omega) | (have h8 := tiT_neg e_to_2 c_35; omega)) ls (lv_sub hl [1, 2, 0, 3] rfl)
  exact L4 ((w * le - 0) + 1) (0) (0) (by first | assumption | omega | rfl) rfl (by omega) ls (lv_sub hl [2, 1, 0] rfl)
set_option maxHeartbeats 4000000 in
set_option maxRecDepth 100000 in
theorem k_X4_cluster (l : Launch) (D : va_G) (dA : Nat → ClassId) (a w le rg st sd qa ql qf up dn : Nat) (k : Nat) (hwl : w * le ≤ 16) (hrg : rg < 2147483648) (hk : k < w * le) (hst : st < 2147483648) : zM l yX4_cluster cX4_cluster 7 (some .int) (zRm 2 45) D dA [.ref (a), .int (zI ((k : Nat) : Int))] [(a, .inr (4, [.int (zI ((w : Nat) : Int)), .int (zI ((le : Nat) : Int)), .int (zI ((rg : Nat) : Int)), .int (zI ((st : Nat) : Int)), .int (zI ((sd : Nat) : Int)), .ref (qa), .ref (ql), .ref (qf), .int (zI ((up : Nat) : Int)), .int (zI ((dn : Nat) : Int))]))] (some (.int (zI ((clR w le rg st 65537 (2 ^ k) 0 : Nat) : Int)))) := by
  refine zM.of (by decide +kernel) rfl ?_
  intro pp ee ss mm args below meth cd Q C hr hlk hQ hP ls hl
  have hx := C.1.1
  have hb := C.1.2.1
  have hl : lv_has ls 7 [(0, .ref (a)), (1, .int (zI ((k : Nat) : Int)))] := hl
  have hkk : 2 ^ k < 2 ^ 16 := Nat.pow_lt_pow_right (by decide) (by omega)
  refine z_iconst C dX4_cluster_0 ?_
  refine lv_iload_n hx hb dX4_cluster_1 rfl (lv_at hl 1 rfl) ?_
  refine z_ishl1 C (k) rfl rfl (by omega) dX4_cluster_2 ?_
  refine lv_istore_n (lv' := [(2, .int (zI (((2 ^ k) : Nat) : Int))), (0, .ref (a)), (1, .int (zI ((k : Nat) : Int)))]) hx hb dX4_cluster_3 rfl hl (by decide) rfl (fun ls hl => ?_)
  refine z_iconst C dX4_cluster_4 ?_
  refine lv_istore_n (lv' := [(3, .int (zI 0)), (2, .int (zI (((2 ^ k) : Nat) : Int))), (0, .ref (a)), (1, .int (zI ((k : Nat) : Int)))]) hx hb dX4_cluster_5 rfl hl (by decide) rfl (fun ls hl => ?_)
  have L6 : ∀ (N : Nat) (fu set was : Nat), (clR w le rg st 65537 (2 ^ k) 0 = clR w le rg st (fu + 1) set was) → (set < 2 ^ 16) → (was ≤ set) → (65536 - was ≤ fu) → (fu) < N → ∀ ls : Array Slot, lv_has ls 7 [(0, .ref (a)), (1, .int (zI ((k : Nat) : Int))), (2, .int (zI ((set : Nat) : Int))), (3, .int (zI ((was : Nat) : Int)))] → W pp l ee (zRm 2 45) ss mm args below meth cd ss.heap [] 0 0 Q (F0 mm 6 ls []) := by
    intro N
    induction N with
    | zero => intro fu set was _ _ _ _ hm; exact absurd hm (Nat.not_lt_zero _)
    | succ N ih6 =>
      intro fu set was hR hlt hwl2 hf hm6 ls hl
      refine lv_iload_n hx hb dX4_cluster_6 rfl (lv_at hl 2 rfl) ?_
      refine lv_iload_n hx hb dX4_cluster_7 rfl (lv_at hl 3 rfl) ?_
      refine z_icmp_eq (tgt := 127) C ⟨by omega, by omega⟩ ⟨by omega, by omega⟩ dX4_cluster_8 (by decide) (fun c_8 => ?_) (fun c_8 => ?_)
      · refine lv_iload_n hx hb dX4_cluster_127 rfl (lv_at hl 2 rfl) ?_
        exact z_iret C hlk hr hQ (by rw [hR, clR, if_pos (by omega)]) dX4_cluster_128
      · refine lv_iload_n hx hb dX4_cluster_11 rfl (lv_at hl 2 rfl) ?_
        refine lv_istore_n (lv' := [(3, .int (zI ((set : Nat) : Int))), (0, .ref (a)), (1, .int (zI ((k : Nat) : Int))), (2, .int (zI ((set : Nat) : Int)))]) hx hb dX4_cluster_12 rfl hl (by decide) rfl (fun ls hl => ?_)
        refine z_iconst C dX4_cluster_13 ?_
        refine lv_istore (lv' := [(4, .int (zI 0)), (3, .int (zI ((set : Nat) : Int))), (0, .ref (a)), (1, .int (zI ((k : Nat) : Int))), (2, .int (zI ((set : Nat) : Int)))]) hx hb dX4_cluster_14 hl (by decide) rfl (fun ls hl => ?_)
        have L16 : ∀ (N : Nat) (i s1 : Nat), (i ≤ w * le) → (s1 = clS w le rg st set i) → (s1 < 2 ^ 16) → (w * le - i) < N → ∀ ls : Array Slot, lv_has ls 7 [(0, .ref (a)), (1, .int (zI ((k : Nat) : Int))), (2, .int (zI ((s1 : Nat) : Int))), (3, .int (zI ((set : Nat) : Int))), (4, .int (zI ((i : Nat) : Int)))] → W pp l ee (zRm 2 45) ss mm args below meth cd ss.heap [] 0 0 Q (F0 mm 16 ls []) := by
          intro N
          induction N with
          | zero => intro i s1 _ _ _ hm; exact absurd hm (Nat.not_lt_zero _)
          | succ N ih16 =>
            intro i s1 hi hs hlt1 hm16 ls hl
            refine lv_iload hx hb dX4_cluster_16 (lv_at hl 4 rfl) ?_
            refine lv_aload_n hx hb dX4_cluster_18 rfl (lv_at hl 0 rfl) ?_
            refine z_cV (n := 0) (As := []) (rest := [.int (zI ((i : Nat) : Int))]) C hP (k_X4_sites l D dA (a) (w) (le) (rg) (st) (sd) (qa) (ql) (qf) (up) (dn)) (lw_V q781 q766 q767 q115 q768) (by decide +kernel) rfl ⟨Nat.le_of_ble_eq_true rfl, Nat.le_of_ble_eq_true rfl⟩ hl.1 (hP.sub [0] rfl) 0 rfl rfl rfl (Nat.le_of_ble_eq_true rfl) dX4_cluster_19 (Nat.zero_le _) (Nat.zero_le _) ?_
            refine z_icmp_ge (tgt := 124) C ⟨by omega, by omega⟩ ⟨by omega, by omega⟩ dX4_cluster_22 (by decide) (fun c_22 => ?_) (fun c_22 => ?_)
            · refine lv_goto (tgt := 6) hx hb dX4_cluster_124 (by decide) ?_
              exact ih6 (fu - 1) (s1) (set) (by rw [hR, clR, if_neg (by omega), hs, show i = w * le by omega, show fu - 1 + 1 = fu by omega]) (by omega) (by rw [hs]; exact (clS_lt hwl hlt i hi).2) (by first | assumption | omega | rfl) (by omega) ls (lv_sub hl [0, 1, 2, 3] rfl)
            · have hki : i < w * le := by omega
              refine z_iconst C dX4_cluster_25 ?_
              refine lv_istore (lv' := [(5, .int (zI 0)), (0, .ref (a)), (1, .int (zI ((k : Nat) : Int))), (2, .int (zI ((s1 : Nat) : Int))), (3, .int (zI ((set : Nat) : Int))), (4, .int (zI ((i : Nat) : Int)))]) hx hb dX4_cluster_26 hl (by decide) rfl (fun ls hl => ?_)
              refine lv_iload hx hb dX4_cluster_28 (lv_at hl 0 rfl) ?_
              refine z_iconst C dX4_cluster_30 ?_
              refine z_icmp_ge (tgt := 118) C ⟨by decide, by decide⟩ ⟨by decide, by decide⟩ dX4_cluster_31 (by decide) (fun c => absurd c (by decide)) (fun _ => ?_)
              have J112 : ∀ (s2 : Nat), (s2 = clT w le rg st set i false (clS w le rg st set i)) → (s2 < 2 ^ 16) → ∀ ls : Array Slot, lv_has ls 7 [(5, .int (zI 0)), (0, .ref (a)), (1, .int (zI ((k : Nat) : Int))), (2, .int (zI ((s2 : Nat) : Int))), (3, .int (zI ((set : Nat) : Int))), (4, .int (zI ((i : Nat) : Int)))] → W pp l ee (zRm 2 45) ss mm args below meth cd ss.heap [] 0 0 Q (F0 mm 112 ls []) := by
                intro s2 hs2 hlt2 ls hl
                refine lv_iinc (v := zI 1) (lv' := [(5, .int (zI 1)), (0, .ref (a)), (1, .int (zI ((k : Nat) : Int))), (2, .int (zI ((s2 : Nat) : Int))), (3, .int (zI ((set : Nat) : Int))), (4, .int (zI ((i : Nat) : Int)))]) hx hb dX4_cluster_112 hl (k := 0) rfl (zI_inc (by omega)) (by decide) rfl (fun ls hl => ?_)
                refine lv_goto (tgt := 28) hx hb dX4_cluster_115 (by decide) ?_
                refine lv_iload hx hb dX4_cluster_28 (lv_at hl 0 rfl) ?_
                refine z_iconst C dX4_cluster_30 ?_
                refine z_icmp_ge (tgt := 118) C ⟨by decide, by decide⟩ ⟨by decide, by decide⟩ dX4_cluster_31 (by decide) (fun c => absurd c (by decide)) (fun _ => ?_)
                have J112 : ∀ (s2 : Nat), (s2 = clT w le rg st set i true (clT w le rg st set i false (clS w le rg st set i))) → (s2 < 2 ^ 16) → ∀ ls : Array Slot, lv_has ls 7 [(5, .int (zI 1)), (0, .ref (a)), (1, .int (zI ((k : Nat) : Int))), (2, .int (zI ((s2 : Nat) : Int))), (3, .int (zI ((set : Nat) : Int))), (4, .int (zI ((i : Nat) : Int)))] → W pp l ee (zRm 2 45) ss mm args below meth cd ss.heap [] 0 0 Q (F0 mm 112 ls []) := by
                  intro s2 hs2 hlt2 ls hl
                  refine lv_iinc (v := zI 2) (lv' := [(5, .int (zI 2)), (0, .ref (a)), (1, .int (zI ((k : Nat) : Int))), (2, .int (zI ((s2 : Nat) : Int))), (3, .int (zI ((set : Nat) : Int))), (4, .int (zI ((i : Nat) : Int)))]) hx hb dX4_cluster_112 hl (k := 0) rfl (zI_inc (by omega)) (by decide) rfl (fun ls hl => ?_)
                  refine lv_goto (tgt := 28) hx hb dX4_cluster_115 (by decide) ?_
                  refine lv_iload hx hb dX4_cluster_28 (lv_at hl 0 rfl) ?_
                  refine z_iconst C dX4_cluster_30 ?_
                  refine z_icmp_ge (tgt := 118) C ⟨by decide, by decide⟩ ⟨by decide, by decide⟩ dX4_cluster_31 (by decide) (fun _ => ?_) (fun c => absurd c (by decide))
                  refine lv_iinc (v := zI ((i + 1 : Nat) : Int)) (lv' := [(4, .int (zI ((i + 1 : Nat) : Int))), (5, .int (zI 2)), (0, .ref (a)), (1, .int (zI ((k : Nat) : Int))), (2, .int (zI ((s2 : Nat) : Int))), (3, .int (zI ((set : Nat) : Int)))]) hx hb dX4_cluster_118 hl (k := 5) rfl (zI_inc (by omega)) (by decide) rfl (fun ls hl => ?_)
                  refine lv_goto (tgt := 16) hx hb dX4_cluster_121 (by decide) ?_
                  exact ih16 (i + 1) (s2) (by first | assumption | omega | rfl) (by rw [hs2]; rfl) (by first | assumption | omega | rfl) (by omega) ls (lv_sub hl [2, 3, 4, 5, 0] rfl)
                refine lv_aload_n hx hb dX4_cluster_34 rfl (lv_at hl 1 rfl) ?_
                refine lv_iload hx hb dX4_cluster_35 (lv_at hl 5 rfl) ?_
                refine lv_iload hx hb dX4_cluster_37 (lv_at hl 0 rfl) ?_
                refine z_iconst C dX4_cluster_39 ?_
                refine z_icmp_ne (tgt := 47) C ⟨by decide, by decide⟩ ⟨by decide, by decide⟩ dX4_cluster_40 (by decide) (fun c => absurd c (by decide)) (fun _ => ?_)
                refine z_iconst C dX4_cluster_43 ?_
                refine lv_goto (tgt := 48) hx hb dX4_cluster_44 (by decide) ?_
                refine z_cV (n := 2) (As := [.int (zI ((i : Nat) : Int)), .int (zI 1)]) (rest := []) C hP (k_X4_other l D dA (a) (w) (le) (rg) (st) (sd) (qa) (ql) (qf) (up) (dn) (i) (true) (by first | assumption | omega | rfl) (by first | assumption | omega | rfl) (by first | assumption | omega | rfl)) (lw_V q967 q784 q785 q115 q786) (by decide +kernel) rfl ⟨Nat.le_of_ble_eq_true rfl, Nat.le_of_ble_eq_true rfl⟩ hl.1 (hP.sub [0] rfl) 0 rfl rfl rfl (Nat.le_of_ble_eq_true rfl) dX4_cluster_48 (Nat.zero_le _) (Nat.zero_le _) ?_
                refine z_nm (fun to_1 e_to_1 => ?_)
                have o_to_1 := oth_lt rg true (show i < w * le by omega)
                rw [← e_to_1] at o_to_1
                refine lv_istore (lv' := [(6, .int (zI (to_1))), (5, .int (zI 1)), (0, .ref (a)), (1, .int (zI ((k : Nat) : Int))), (2, .int (zI ((s2 : Nat) : Int))), (3, .int (zI ((set : Nat) : Int))), (4, .int (zI ((i : Nat) : Int)))]) hx hb dX4_cluster_51 hl (by decide) rfl (fun ls hl => ?_)
                refine lv_iload hx hb dX4_cluster_53 (lv_at hl 0 rfl) ?_
                refine z_if_lt (tgt := 112) C ⟨by omega, by omega⟩ dX4_cluster_55 (by decide) (fun c_55 => ?_) (fun c_55 => ?_)
                · exact J112 (s2) (by (first | rw [← hs2] | rw [← hs]); first | exact (clT_neg e_to_1 c_55).symm | exact (clT_ne e_to_1 c_76).symm | exact (clT_in e_to_1 c_76 (Or.inl c_85)).symm | exact (clT_in e_to_1 c_76 (Or.inr c_94)).symm | exact (clT_out e_to_1 c_85 c_94).symm) (by first | omega | exact Nat.or_lt_two_pow (by omega) (Nat.or_lt_two_pow hp1 hp2)) ls (lv_sub hl [1, 2, 3, 4, 5, 6] rfl)
                · obtain ⟨to_1n, rfl⟩ : ∃ q : Nat, to_1 = (q : Int) := ⟨to_1.toNat, by omega⟩
                  refine lv_aload_n hx hb dX4_cluster_58 rfl (lv_at hl 2 rfl) ?_
                  refine z_get C hP 0 rfl rfl in_X4 3 (by decide) q305 rfl dX4_cluster_59 ?_
                  refine lv_iload hx hb dX4_cluster_62 (lv_at hl 6 rfl) ?_
                  refine z_cSN (n := 2) (As := [.int (zI ((st : Nat) : Int)), .int (zI ((i : Nat) : Int))]) (rest := []) C (k_X0_has l D dA (st) (i) (by first | assumption | omega | rfl) (by first | assumption | omega | rfl)) (List.mem_of_getElem? (i := 12) rfl) q789 q108 q788 (by decide +kernel) rfl ⟨Nat.le_of_ble_eq_true rfl, Nat.le_of_ble_eq_true rfl⟩ hl.1 (hP.sub [] rfl) rfl (Nat.le_of_ble_eq_true rfl) dX4_cluster_64 (Nat.zero_le _) (Nat.zero_le _) ?_
                  refine lv_aload_n hx hb dX4_cluster_67 rfl (lv_at hl 2 rfl) ?_
                  refine z_get C hP 0 rfl rfl in_X4 3 (by decide) q305 rfl dX4_cluster_68 ?_
                  refine lv_iload hx hb dX4_cluster_71 (lv_at hl 0 rfl) ?_
                  refine z_cSN (n := 2) (As := [.int (zI ((st : Nat) : Int)), .int (zI ((to_1n : Nat) : Int))]) (rest := [.int (zB (st.testBit i))]) C (k_X0_has l D dA (st) (to_1n) (by first | assumption | omega | rfl) (by first | assumption | omega | rfl)) (List.mem_of_getElem? (i := 12) rfl) q789 q108 q788 (by decide +kernel) rfl ⟨Nat.le_of_ble_eq_true rfl, Nat.le_of_ble_eq_true rfl⟩ hl.1 (hP.sub [] rfl) rfl (Nat.le_of_ble_eq_true rfl) dX4_cluster_73 (Nat.zero_le _) (Nat.zero_le _) ?_
                  refine z_icmp_neB (tgt := 112) C dX4_cluster_76 (by decide) (fun c_76 => ?_) (fun c_76 => ?_)
                  · exact J112 (s2) (by (first | rw [← hs2] | rw [← hs]); first | exact (clT_neg e_to_1 c_55).symm | exact (clT_ne e_to_1 c_76).symm | exact (clT_in e_to_1 c_76 (Or.inl c_85)).symm | exact (clT_in e_to_1 c_76 (Or.inr c_94)).symm | exact (clT_out e_to_1 c_85 c_94).symm) (by first | omega | exact Nat.or_lt_two_pow (by omega) (Nat.or_lt_two_pow hp1 hp2)) ls (lv_sub hl [1, 2, 3, 4, 5, 6] rfl)
                  · refine lv_iload_n hx hb dX4_cluster_79 rfl (lv_at hl 5 rfl) ?_
                    refine lv_iload hx hb dX4_cluster_80 (lv_at hl 6 rfl) ?_
                    refine z_cSN (n := 2) (As := [.int (zI ((set : Nat) : Int)), .int (zI ((i : Nat) : Int))]) (rest := []) C (k_X0_has l D dA (set) (i) (by first | assumption | omega | rfl) (by first | assumption | omega | rfl)) (List.mem_of_getElem? (i := 12) rfl) q789 q108 q788 (by decide +kernel) rfl ⟨Nat.le_of_ble_eq_true rfl, Nat.le_of_ble_eq_true rfl⟩ hl.1 (hP.sub [] rfl) rfl (Nat.le_of_ble_eq_true rfl) dX4_cluster_82 (Nat.zero_le _) (Nat.zero_le _) ?_
                    refine z_if_neB (tgt := 100) C dX4_cluster_85 (by decide) (fun c_85 => ?_) (fun c_85 => ?_)
                    · refine lv_iload_n hx hb dX4_cluster_100 rfl (lv_at hl 4 rfl) ?_
                      refine z_iconst C dX4_cluster_101 ?_
                      refine lv_iload hx hb dX4_cluster_102 (lv_at hl 6 rfl) ?_
                      have hp1 : 2 ^ i < 2 ^ 16 := Nat.pow_lt_pow_right (by decide) (by omega)
                      have hp2 : 2 ^ to_1n < 2 ^ 16 := Nat.pow_lt_pow_right (by decide) (by omega)
                      refine z_ishl1 C (i) rfl rfl (by omega) dX4_cluster_104 ?_
                      refine z_iconst C dX4_cluster_105 ?_
                      refine lv_iload hx hb dX4_cluster_106 (lv_at hl 0 rfl) ?_
                      refine z_ishl1 C (to_1n) rfl rfl (by omega) dX4_cluster_108 ?_
                      refine z_ior C ((2 ^ i)) ((2 ^ to_1n)) rfl rfl dX4_cluster_109 ?_
                      refine z_ior C (s2) (((2 ^ i) ||| (2 ^ to_1n))) rfl rfl dX4_cluster_110 ?_
                      refine lv_istore_n (lv' := [(2, .int (zI (((s2 ||| ((2 ^ i) ||| (2 ^ to_1n))) : Nat) : Int))), (6, .int (zI ((to_1n : Nat) : Int))), (5, .int (zI 1)), (0, .ref (a)), (1, .int (zI ((k : Nat) : Int))), (3, .int (zI ((set : Nat) : Int))), (4, .int (zI ((i : Nat) : Int)))]) hx hb dX4_cluster_111 rfl hl (by decide) rfl (fun ls hl => ?_)
                      exact J112 ((s2 ||| ((2 ^ i) ||| (2 ^ to_1n)))) (by (first | rw [← hs2] | rw [← hs]); first | exact (clT_neg e_to_1 c_55).symm | exact (clT_ne e_to_1 c_76).symm | exact (clT_in e_to_1 c_76 (Or.inl c_85)).symm | exact (clT_in e_to_1 c_76 (Or.inr c_94)).symm | exact (clT_out e_to_1 c_85 c_94).symm) (by first | omega | exact Nat.or_lt_two_pow (by omega) (Nat.or_lt_two_pow hp1 hp2)) ls (lv_sub hl [2, 3, 4, 0, 5, 6] rfl)
                    · refine lv_iload_n hx hb dX4_cluster_88 rfl (lv_at hl 5 rfl) ?_
                      refine lv_iload hx hb dX4_cluster_89 (lv_at hl 0 rfl) ?_
                      refine z_cSN (n := 2) (As := [.int (zI ((set : Nat) : Int)), .int (zI ((to_1n : Nat) : Int))]) (rest := []) C (k_X0_has l D dA (set) (to_1n) (by first | assumption | omega | rfl) (by first | assumption | omega | rfl)) (List.mem_of_getElem? (i := 12) rfl) q789 q108 q788 (by decide +kernel) rfl ⟨Nat.le_of_ble_eq_true rfl, Nat.le_of_ble_eq_true rfl⟩ hl.1 (hP.sub [] rfl) rfl (Nat.le_of_ble_eq_true rfl) dX4_cluster_91 (Nat.zero_le _) (Nat.zero_le _) ?_
                      refine z_if_neB (tgt := 100) C dX4_cluster_94 (by decide) (fun c_94 => ?_) (fun c_94 => ?_)
                      · refine lv_iload_n hx hb dX4_cluster_100 rfl (lv_at hl 4 rfl) ?_
                        refine z_iconst C dX4_cluster_101 ?_
                        refine lv_iload hx hb dX4_cluster_102 (lv_at hl 6 rfl) ?_
                        have hp1 : 2 ^ i < 2 ^ 16 := Nat.pow_lt_pow_right (by decide) (by omega)
                        have hp2 : 2 ^ to_1n < 2 ^ 16 := Nat.pow_lt_pow_right (by decide) (by omega)
                        refine z_ishl1 C (i) rfl rfl (by omega) dX4_cluster_104 ?_
                        refine z_iconst C dX4_cluster_105 ?_
                        refine lv_iload hx hb dX4_cluster_106 (lv_at hl 0 rfl) ?_
                        refine z_ishl1 C (to_1n) rfl rfl (by omega) dX4_cluster_108 ?_
                        refine z_ior C ((2 ^ i)) ((2 ^ to_1n)) rfl rfl dX4_cluster_109 ?_
                        refine z_ior C (s2) (((2 ^ i) ||| (2 ^ to_1n))) rfl rfl dX4_cluster_110 ?_
                        refine lv_istore_n (lv' := [(2, .int (zI (((s2 ||| ((2 ^ i) ||| (2 ^ to_1n))) : Nat) : Int))), (6, .int (zI ((to_1n : Nat) : Int))), (5, .int (zI 1)), (0, .ref (a)), (1, .int (zI ((k : Nat) : Int))), (3, .int (zI ((set : Nat) : Int))), (4, .int (zI ((i : Nat) : Int)))]) hx hb dX4_cluster_111 rfl hl (by decide) rfl (fun ls hl => ?_)
                        exact J112 ((s2 ||| ((2 ^ i) ||| (2 ^ to_1n)))) (by (first | rw [← hs2] | rw [← hs]); first | exact (clT_neg e_to_1 c_55).symm | exact (clT_ne e_to_1 c_76).symm | exact (clT_in e_to_1 c_76 (Or.inl c_85)).symm | exact (clT_in e_to_1 c_76 (Or.inr c_94)).symm | exact (clT_out e_to_1 c_85 c_94).symm) (by first | omega | exact Nat.or_lt_two_pow (by omega) (Nat.or_lt_two_pow hp1 hp2)) ls (lv_sub hl [2, 3, 4, 0, 5, 6] rfl)
                      · refine lv_goto (tgt := 112) hx hb dX4_cluster_97 (by decide) ?_
                        exact J112 (s2) (by (first | rw [← hs2] | rw [← hs]); first | exact (clT_neg e_to_1 c_55).symm | exact (clT_ne e_to_1 c_76).symm | exact (clT_in e_to_1 c_76 (Or.inl c_85)).symm | exact (clT_in e_to_1 c_76 (Or.inr c_94)).symm | exact (clT_out e_to_1 c_85 c_94).symm) (by first | omega | exact Nat.or_lt_two_pow (by omega) (Nat.or_lt_two_pow hp1 hp2)) ls (lv_sub hl [1, 2, 3, 4, 5, 6] rfl)
              refine lv_aload_n hx hb dX4_cluster_34 rfl (lv_at hl 1 rfl) ?_
              refine lv_iload hx hb dX4_cluster_35 (lv_at hl 5 rfl) ?_
              refine lv_iload hx hb dX4_cluster_37 (lv_at hl 0 rfl) ?_
              refine z_iconst C dX4_cluster_39 ?_
              refine z_icmp_ne (tgt := 47) C ⟨by decide, by decide⟩ ⟨by decide, by decide⟩ dX4_cluster_40 (by decide) (fun _ => ?_) (fun c => absurd c (by decide))
              refine z_iconst C dX4_cluster_47 ?_
              refine z_cV (n := 2) (As := [.int (zI ((i : Nat) : Int)), .int (zI 0)]) (rest := []) C hP (k_X4_other l D dA (a) (w) (le) (rg) (st) (sd) (qa) (ql) (qf) (up) (dn) (i) (false) (by first | assumption | omega | rfl) (by first | assumption | omega | rfl) (by first | assumption | omega | rfl)) (lw_V q967 q784 q785 q115 q786) (by decide +kernel) rfl ⟨Nat.le_of_ble_eq_true rfl, Nat.le_of_ble_eq_true rfl⟩ hl.1 (hP.sub [0] rfl) 0 rfl rfl rfl (Nat.le_of_ble_eq_true rfl) dX4_cluster_48 (Nat.zero_le _) (Nat.zero_le _) ?_
              refine z_nm (fun to_2 e_to_2 => ?_)
              have o_to_2 := oth_lt rg false (show i < w * le by omega)
              rw [← e_to_2] at o_to_2
              refine lv_istore (lv' := [(6, .int (zI (to_2))), (5, .int (zI 0)), (0, .ref (a)), (1, .int (zI ((k : Nat) : Int))), (2, .int (zI ((s1 : Nat) : Int))), (3, .int (zI ((set : Nat) : Int))), (4, .int (zI ((i : Nat) : Int)))]) hx hb dX4_cluster_51 hl (by decide) rfl (fun ls hl => ?_)
              refine lv_iload hx hb dX4_cluster_53 (lv_at hl 0 rfl) ?_
              refine z_if_lt (tgt := 112) C ⟨by omega, by omega⟩ dX4_cluster_55 (by decide) (fun c_55 => ?_) (fun c_55 => ?_)
              · exact J112 (s1) (by (first | rw [← hs2] | rw [← hs]); first | exact (clT_neg e_to_2 c_55).symm | exact (clT_ne e_to_2 c_76).symm | exact (clT_in e_to_2 c_76 (Or.inl c_85)).symm | exact (clT_in e_to_2 c_76 (Or.inr c_94)).symm | exact (clT_out e_to_2 c_85 c_94).symm) (by first | omega | exact Nat.or_lt_two_pow (by omega) (Nat.or_lt_two_pow hp1 hp2)) ls (lv_sub hl [1, 2, 3, 4, 5, 6] rfl)
              · obtain ⟨to_2n, rfl⟩ : ∃ q : Nat, to_2 = (q : Int) := ⟨to_2.toNat, by omega⟩
                refine lv_aload_n hx hb dX4_cluster_58 rfl (lv_at hl 2 rfl) ?_
                refine z_get C hP 0 rfl rfl in_X4 3 (by decide) q305 rfl dX4_cluster_59 ?_
                refine lv_iload hx hb dX4_cluster_62 (lv_at hl 6 rfl) ?_
                refine z_cSN (n := 2) (As := [.int (zI ((st : Nat) : Int)), .int (zI ((i : Nat) : Int))]) (rest := []) C (k_X0_has l D dA (st) (i) (by first | assumption | omega | rfl) (by first | assumption | omega | rfl)) (List.mem_of_getElem? (i := 12) rfl) q789 q108 q788 (by decide +kernel) rfl ⟨Nat.le_of_ble_eq_true rfl, Nat.le_of_ble_eq_true rfl⟩ hl.1 (hP.sub [] rfl) rfl (Nat.le_of_ble_eq_true rfl) dX4_cluster_64 (Nat.zero_le _) (Nat.zero_le _) ?_
                refine lv_aload_n hx hb dX4_cluster_67 rfl (lv_at hl 2 rfl) ?_
                refine z_get C hP 0 rfl rfl in_X4 3 (by decide) q305 rfl dX4_cluster_68 ?_
                refine lv_iload hx hb dX4_cluster_71 (lv_at hl 0 rfl) ?_
                refine z_cSN (n := 2) (As := [.int (zI ((st : Nat) : Int)), .int (zI ((to_2n : Nat) : Int))]) (rest := [.int (zB (st.testBit i))]) C (k_X0_has l D dA (st) (to_2n) (by first | assumption | omega | rfl) (by first | assumption | omega | rfl)) (List.mem_of_getElem? (i := 12) rfl) q789 q108 q788 (by decide +kernel) rfl ⟨Nat.le_of_ble_eq_true rfl, Nat.le_of_ble_eq_true rfl⟩ hl.1 (hP.sub [] rfl) rfl (Nat.le_of_ble_eq_true rfl) dX4_cluster_73 (Nat.zero_le _) (Nat.zero_le _) ?_
                refine z_icmp_neB (tgt := 112) C dX4_cluster_76 (by decide) (fun c_76 => ?_) (fun c_76 => ?_)
                · exact J112 (s1) (by (first | rw [← hs2] | rw [← hs]); first | exact (clT_neg e_to_2 c_55).symm | exact (clT_ne e_to_2 c_76).symm | exact (clT_in e_to_2 c_76 (Or.inl c_85)).symm | exact (clT_in e_to_2 c_76 (Or.inr c_94)).symm | exact (clT_out e_to_2 c_85 c_94).symm) (by first | omega | exact Nat.or_lt_two_pow (by omega) (Nat.or_lt_two_pow hp1 hp2)) ls (lv_sub hl [1, 2, 3, 4, 5, 6] rfl)
                · refine lv_iload_n hx hb dX4_cluster_79 rfl (lv_at hl 5 rfl) ?_
                  refine lv_iload hx hb dX4_cluster_80 (lv_at hl 6 rfl) ?_
                  refine z_cSN (n := 2) (As := [.int (zI ((set : Nat) : Int)), .int (zI ((i : Nat) : Int))]) (rest := []) C (k_X0_has l D dA (set) (i) (by first | assumption | omega | rfl) (by first | assumption | omega | rfl)) (List.mem_of_getElem? (i := 12) rfl) q789 q108 q788 (by decide +kernel) rfl ⟨Nat.le_of_ble_eq_true rfl, Nat.le_of_ble_eq_true rfl⟩ hl.1 (hP.sub [] rfl) rfl (Nat.le_of_ble_eq_true rfl) dX4_cluster_82 (Nat.zero_le _) (Nat.zero_le _) ?_
                  refine z_if_neB (tgt := 100) C dX4_cluster_85 (by decide) (fun c_85 => ?_) (fun c_85 => ?_)
                  · refine lv_iload_n hx hb dX4_cluster_100 rfl (lv_at hl 4 rfl) ?_
                    refine z_iconst C dX4_cluster_101 ?_
                    refine lv_iload hx hb dX4_cluster_102 (lv_at hl 6 rfl) ?_
                    have hp1 : 2 ^ i < 2 ^ 16 := Nat.pow_lt_pow_right (by decide) (by omega)
                    have hp2 : 2 ^ to_2n < 2 ^ 16 := Nat.pow_lt_pow_right (by decide) (by omega)
                    refine z_ishl1 C (i) rfl rfl (by omega) dX4_cluster_104 ?_
                    refine z_iconst C dX4_cluster_105 ?_
                    refine lv_iload hx hb dX4_cluster_106 (lv_at hl 0 rfl) ?_
                    refine z_ishl1 C (to_2n) rfl rfl (by omega) dX4_cluster_108 ?_
                    refine z_ior C ((2 ^ i)) ((2 ^ to_2n)) rfl rfl dX4_cluster_109 ?_
                    refine z_ior C (s1) (((2 ^ i) ||| (2 ^ to_2n))) rfl rfl dX4_cluster_110 ?_
                    refine lv_istore_n (lv' := [(2, .int (zI (((s1 ||| ((2 ^ i) ||| (2 ^ to_2n))) : Nat) : Int))), (6, .int (zI ((to_2n : Nat) : Int))), (5, .int (zI 0)), (0, .ref (a)), (1, .int (zI ((k : Nat) : Int))), (3, .int (zI ((set : Nat) : Int))), (4, .int (zI ((i : Nat) : Int)))]) hx hb dX4_cluster_111 rfl hl (by decide) rfl (fun ls hl => ?_)
                    exact J112 ((s1 ||| ((2 ^ i) ||| (2 ^ to_2n)))) (by (first | rw [← hs2] | rw [← hs]); first | exact (clT_neg e_to_2 c_55).symm | exact (clT_ne e_to_2 c_76).symm | exact (clT_in e_to_2 c_76 (Or.inl c_85)).symm | exact (clT_in e_to_2 c_76 (Or.inr c_94)).symm | exact (clT_out e_to_2 c_85 c_94).symm) (by first | omega | exact Nat.or_lt_two_pow (by omega) (Nat.or_lt_two_pow hp1 hp2)) ls (lv_sub hl [2, 3, 4, 0, 5, 6] rfl)
                  · refine lv_iload_n hx hb dX4_cluster_88 rfl (lv_at hl 5 rfl) ?_
                    refine lv_iload hx hb dX4_cluster_89 (lv_at hl 0 rfl) ?_
                    refine z_cSN (n := 2) (As := [.int (zI ((set : Nat) : Int)), .int (zI ((to_2n : Nat) : Int))]) (rest := []) C (k_X0_has l D dA (set) (to_2n) (by first | assumption | omega | rfl) (by first | assumption | omega | rfl)) (List.mem_of_getElem? (i := 12) rfl) q789 q108 q788 (by decide +kernel) rfl ⟨Nat.le_of_ble_eq_true rfl, Nat.le_of_ble_eq_true rfl⟩ hl.1 (hP.sub [] rfl) rfl (Nat.le_of_ble_eq_true rfl) dX4_cluster_91 (Nat.zero_le _) (Nat.zero_le _) ?_
                    refine z_if_neB (tgt := 100) C dX4_cluster_94 (by decide) (fun c_94 => ?_) (fun c_94 => ?_)
                    · refine lv_iload_n hx hb dX4_cluster_100 rfl (lv_at hl 4 rfl) ?_
                      refine z_iconst C dX4_cluster_101 ?_
                      refine lv_iload hx hb dX4_cluster_102 (lv_at hl 6 rfl) ?_
                      have hp1 : 2 ^ i < 2 ^ 16 := Nat.pow_lt_pow_right (by decide) (by omega)
                      have hp2 : 2 ^ to_2n < 2 ^ 16 := Nat.pow_lt_pow_right (by decide) (by omega)
                      refine z_ishl1 C (i) rfl rfl (by omega) dX4_cluster_104 ?_
                      refine z_iconst C dX4_cluster_105 ?_
                      refine lv_iload hx hb dX4_cluster_106 (lv_at hl 0 rfl) ?_
                      refine z_ishl1 C (to_2n) rfl rfl (by omega) dX4_cluster_108 ?_
                      refine z_ior C ((2 ^ i)) ((2 ^ to_2n)) rfl rfl dX4_cluster_109 ?_
                      refine z_ior C (s1) (((2 ^ i) ||| (2 ^ to_2n))) rfl rfl dX4_cluster_110 ?_
                      refine lv_istore_n (lv' := [(2, .int (zI (((s1 ||| ((2 ^ i) ||| (2 ^ to_2n))) : Nat) : Int))), (6, .int (zI ((to_2n : Nat) : Int))), (5, .int (zI 0)), (0, .ref (a)), (1, .int (zI ((k : Nat) : Int))), (3, .int (zI ((set : Nat) : Int))), (4, .int (zI ((i : Nat) : Int)))]) hx hb dX4_cluster_111 rfl hl (by decide) rfl (fun ls hl => ?_)
                      exact J112 ((s1 ||| ((2 ^ i) ||| (2 ^ to_2n)))) (by (first | rw [← hs2] | rw [← hs]); first | exact (clT_neg e_to_2 c_55).symm | exact (clT_ne e_to_2 c_76).symm | exact (clT_in e_to_2 c_76 (Or.inl c_85)).symm | exact (clT_in e_to_2 c_76 (Or.inr c_94)).symm | exact (clT_out e_to_2 c_85 c_94).symm) (by first | omega | exact Nat.or_lt_two_pow (by omega) (Nat.or_lt_two_pow hp1 hp2)) ls (lv_sub hl [2, 3, 4, 0, 5, 6] rfl)
                    · refine lv_goto (tgt := 112) hx hb dX4_cluster_97 (by decide) ?_
                      exact J112 (s1) (by (first | rw [← hs2] | rw [← hs]); first | exact (clT_neg e_to_2 c_55).symm | exact (clT_ne e_to_2 c_76).symm | exact (clT_in e_to_2 c_76 (Or.inl c_85)).symm | exact (clT_in e_to_2 c_76 (Or.inr c_94)).symm | exact (clT_out e_to_2 c_85 c_94).symm) (by first | omega | exact Nat.or_lt_two_pow (by omega) (Nat.or_lt_two_pow hp1 hp2)) ls (lv_sub hl [1, 2, 3, 4, 5, 6] rfl)
        exact L16 ((w * le - 0) + 1) (0) (set) (by first | assumption | omega | rfl) rfl (by first | assumption | omega | rfl) (by omega) ls (lv_sub hl [2, 3, 4, 1, 0] rfl)
  exact L6 ((65536) + 1) (65536) ((2 ^ k)) (0) rfl hkk (Nat.zero_le _) (by first | assumption | omega | rfl) (by omega) ls (lv_sub hl [2, 3, 1, 0] rfl)
