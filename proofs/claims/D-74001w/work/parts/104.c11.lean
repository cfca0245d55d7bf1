set_option maxHeartbeats 600000 in
set_option maxRecDepth 100000 in
theorem k_X0_site (l : Launch) (D : va_G) (dA : Nat → ClassId) (a : Nat) (u0 u1 u2 u4 u5 u6 u7 u8 u9 u10 u11 u12 u13 u14 u15 u16 u17 u18 u19 : Value) (sp w le rg st sd qa ql qf up dn : Nat) (fa fl ff : Nat → Int) (k wh : Int) (hle : le ≤ 16) (hwl : w * le ≤ 16) (hrg : rg < 2147483648) (hst : st < 65536) (hu : up < 65536) (hd : dn < 65536) (hz : zR k) (hz2 : zR wh) : zM l yX0_site cX0_site 3 (some .int) (zRm 4 92) D dA [.ref (a), .int (zI (k)), .int (zI (wh))] [(a, .inr (0, [u0, u1, u2, .ref (sp), u4, u5, u6, u7, u8, u9, u10, u11, u12, u13, u14, u15, u16, u17, u18, u19])), (sp, .inr (4, [.int (zI ((w : Nat) : Int)), .int (zI ((le : Nat) : Int)), .int (zI ((rg : Nat) : Int)), .int (zI ((st : Nat) : Int)), .int (zI ((sd : Nat) : Int)), .ref (qa), .ref (ql), .ref (qf), .int (zI ((up : Nat) : Int)), .int (zI ((dn : Nat) : Int))])), (qa, .inl (dA 3, 16, .inl (fun jz => zI (fa jz)))), (ql, .inl (dA 3, 16, .inl (fun jz => zI (fl jz)))), (qf, .inl (dA 3, 16, .inl (fun jz => zI (ff jz))))] (some (.int (zI ((if 0 ≤ k ∧ k < ((w * le : Nat) : Int) then (if wh = 0 then ((k.toNat / w : Nat) : Int) else if wh = 1 then ((k.toNat % w : Nat) : Int) else if wh = 2 then ff k.toNat else if wh = 3 then (if up.testBit k.toNat = true then (1 : Int) else if dn.testBit k.toNat = true then 2 else 0) else if wh = 4 then (if oth w le rg k.toNat false < 0 then 100 else fa k.toNat) else if wh = 5 then (if oth w le rg k.toNat true < 0 then 100 else fl k.toNat) else if wh = 6 then (if st.testBit k.toNat = true then 1 else 0) else if wh = 7 then costT w le rg fa fl ff st k.toNat else -100000) else -100000))))) := by
  refine zM.of (by decide +kernel) rfl ?_
  intro pp ee ss mm args below meth cd Q C hr hlk hQ hP ls hl
  have hx := C.1.1
  have hb := C.1.2.1
  have hl : lv_has ls 3 [(0, .ref (a)), (1, .int (zI (k))), (2, .int (zI (wh)))] := hl
  refine lv_aload_n hx hb dX0_site_0 rfl (lv_at hl 0 rfl) ?_
  refine z_get C hP 0 rfl rfl in_X0 3 (by decide) q528 rfl dX0_site_1 ?_
  refine lv_iload_n hx hb dX0_site_4 rfl (lv_at hl 1 rfl) ?_
  refine z_cV (n := 1) (As := [.int (zI (k))]) (rest := []) C hP (k_X4_isSite l D dA (sp) (w) (le) (rg) (st) (sd) (qa) (ql) (qf) (up) (dn) ((k)) (by first | with_reducible assumption | omega | with_reducible rfl) (by first | with_reducible assumption | omega | with_reducible rfl)) (lw_V q824 q778 q779 q115 q780) (by decide +kernel) rfl ⟨Nat.le_of_ble_eq_true rfl, Nat.le_of_ble_eq_true rfl⟩ hl.1 (hP.sub [1] rfl) 1 rfl rfl rfl (Nat.le_of_ble_eq_true rfl) dX0_site_5 (Nat.zero_le _) (Nat.zero_le _) ?_
  refine z_if_neB (tgt := 14) C dX0_site_8 (by decide) (fun c_8 => ?_) (fun c_8 => ?_)
  · have c_8 := of_decide_eq_true c_8
    obtain ⟨kq, rfl⟩ : ∃ q : Nat, k = (q : Int) := ⟨k.toNat, by omega⟩
    have hk : kq < w * le := by omega
    obtain ⟨g1, g2, g3, g4, g5, g6⟩ := kw_lt hk
    have g7 : w ≤ 16 := by have := Nat.le_mul_of_pos_right w g2; omega
    clear g3 g4 g5 g6
    have o8 := oth_lt rg false hk
    have o9 := oth_lt rg true hk
    refine lv_iload_n hx hb dX0_site_14 rfl (lv_at hl 2 rfl) ?_
    rcases (show (wh) = 0 ∨ (wh) = 1 ∨ (wh) = 2 ∨ (wh) = 3 ∨ (wh) = 4 ∨ (wh) = 5 ∨ (wh) = 6 ∨ (wh) = 7 ∨ ((wh) < 0 ∨ 7 < (wh)) by omega) with hsw_15 | hsw_15 | hsw_15 | hsw_15 | hsw_15 | hsw_15 | hsw_15 | hsw_15 | hsw_15
    · rw [hsw_15]
      refine lv_tableIn (off := 45) (tgt := 60) hx hb dX0_site_15 (by decide) (by decide) rfl (by decide) ?_
      refine lv_iload_n hx hb dX0_site_60 rfl (lv_at hl 1 rfl) ?_
      refine lv_aload_n hx hb dX0_site_61 rfl (lv_at hl 0 rfl) ?_
      refine z_get C hP 0 rfl rfl in_X0 3 (by decide) q528 rfl dX0_site_62 ?_
      refine z_get C hP 1 rfl rfl in_X4 0 (by decide) q296 rfl dX0_site_65 ?_
      refine z_idivN C (kq) (w) rfl rfl (by omega) ⟨by omega, by omega⟩ dX0_site_68 ?_
      exact z_iret C hlk hr hQ (by rw [if_pos (by omega), if_pos hsw_15, Int.toNat_natCast]) dX0_site_69
    · rw [hsw_15]
      refine lv_tableIn (off := 55) (tgt := 70) hx hb dX0_site_15 (by decide) (by decide) rfl (by decide) ?_
      refine lv_iload_n hx hb dX0_site_70 rfl (lv_at hl 1 rfl) ?_
      refine lv_aload_n hx hb dX0_site_71 rfl (lv_at hl 0 rfl) ?_
      refine z_get C hP 0 rfl rfl in_X0 3 (by decide) q528 rfl dX0_site_72 ?_
      refine z_get C hP 1 rfl rfl in_X4 0 (by decide) q296 rfl dX0_site_75 ?_
      refine z_iremN C (kq) (w) rfl rfl (by omega) ⟨by omega, by omega⟩ dX0_site_78 ?_
      exact z_iret C hlk hr hQ (by rw [if_pos (by omega), if_neg (by omega), if_pos hsw_15, Int.toNat_natCast]) dX0_site_79
    · rw [hsw_15]
      refine lv_tableIn (off := 65) (tgt := 80) hx hb dX0_site_15 (by decide) (by decide) rfl (by decide) ?_
      refine lv_aload_n hx hb dX0_site_80 rfl (lv_at hl 0 rfl) ?_
      refine z_get C hP 0 rfl rfl in_X0 3 (by decide) q528 rfl dX0_site_81 ?_
      refine z_get C hP 1 rfl rfl in_X4 7 (by decide) q320 rfl dX0_site_84 ?_
      refine lv_iload_n hx hb dX0_site_87 rfl (lv_at hl 1 rfl) ?_
      refine z_iald C hP 4 rfl (kq) rfl (by omega) (by decide) dX0_site_88 ?_
      exact z_iret C hlk hr hQ (by rw [if_pos (by omega), if_neg (by omega), if_neg (by omega), if_pos hsw_15, Int.toNat_natCast]) dX0_site_89
    · rw [hsw_15]
      refine lv_tableIn (off := 75) (tgt := 90) hx hb dX0_site_15 (by decide) (by decide) rfl (by decide) ?_
      refine lv_aload_n hx hb dX0_site_90 rfl (lv_at hl 0 rfl) ?_
      refine lv_iload_n hx hb dX0_site_91 rfl (lv_at hl 1 rfl) ?_
      refine z_cV (n := 1) (As := [.int (zI ((kq : Nat) : Int))]) (rest := []) C hP (k_X0_pinOf l D dA (a) (u0) (u1) (u2) (u4) (u5) (u6) (u7) (u8) (u9) (u10) (u11) (u12) (u13) (u14) (u15) (u16) (u17) (u18) (u19) (sp) (w) (le) (rg) (st) (sd) (qa) (ql) (qf) (up) (dn) (kq) (by first | with_reducible assumption | omega | with_reducible rfl) (by first | with_reducible assumption | omega | with_reducible rfl) (by first | with_reducible assumption | omega | with_reducible rfl)) (lw_V q913 q915 qs31 q108 q916) (by decide +kernel) rfl ⟨Nat.le_of_ble_eq_true rfl, Nat.le_of_ble_eq_true rfl⟩ hl.1 (hP.sub [0, 1] rfl) 0 rfl rfl rfl (Nat.le_of_ble_eq_true rfl) dX0_site_92 (Nat.zero_le _) (Nat.zero_le _) ?_
      refine z_nm (fun pv_1 e_pv_1 => ?_)
      exact z_iret C hlk hr hQ (by rw [if_pos (by omega), if_neg (by omega), if_neg (by omega), if_neg (by omega), if_pos hsw_15, Int.toNat_natCast, e_pv_1]) dX0_site_95
    · rw [hsw_15]
      refine lv_tableIn (off := 81) (tgt := 96) hx hb dX0_site_15 (by decide) (by decide) rfl (by decide) ?_
      refine lv_aload_n hx hb dX0_site_96 rfl (lv_at hl 0 rfl) ?_
      refine z_get C hP 0 rfl rfl in_X0 3 (by decide) q528 rfl dX0_site_97 ?_
      refine lv_iload_n hx hb dX0_site_100 rfl (lv_at hl 1 rfl) ?_
      refine lv_iload_n hx hb dX0_site_101 rfl (lv_at hl 2 rfl) ?_
      refine z_iconst C dX0_site_102 ?_
      refine z_icmp_ne (tgt := 110) C ⟨by omega, by omega⟩ ⟨by decide, by decide⟩ dX0_site_103 (by decide) (fun c_103 => ?_) (fun c_103 => ?_)
      · refine z_iconst C dX0_site_110 ?_
        refine z_cV (n := 2) (As := [.int (zI ((kq : Nat) : Int)), .int (zI 0)]) (rest := []) C hP (k_X4_other l D dA (sp) (w) (le) (rg) (st) (sd) (qa) (ql) (qf) (up) (dn) (kq) (false) (by first | with_reducible assumption | omega | with_reducible rfl) (by first | with_reducible assumption | omega | with_reducible rfl) (by first | with_reducible assumption | omega | with_reducible rfl)) (lw_V q825 q784 q785 q115 q786) (by decide +kernel) rfl ⟨Nat.le_of_ble_eq_true rfl, Nat.le_of_ble_eq_true rfl⟩ hl.1 (hP.sub [1] rfl) 1 rfl rfl rfl (Nat.le_of_ble_eq_true rfl) dX0_site_111 (Nat.zero_le _) (Nat.zero_le _) ?_
        refine z_if_ge (tgt := 122) C ⟨by omega, by omega⟩ dX0_site_114 (by decide) (fun c_114 => ?_) (fun c_114 => ?_)
        · refine lv_aload_n hx hb dX0_site_122 rfl (lv_at hl 0 rfl) ?_
          refine z_get C hP 0 rfl rfl in_X0 3 (by decide) q528 rfl dX0_site_123 ?_
          refine lv_iload_n hx hb dX0_site_126 rfl (lv_at hl 1 rfl) ?_
          refine lv_iload_n hx hb dX0_site_127 rfl (lv_at hl 2 rfl) ?_
          refine z_iconst C dX0_site_128 ?_
          refine z_icmp_ne (tgt := 136) C ⟨by omega, by omega⟩ ⟨by decide, by decide⟩ dX0_site_129 (by decide) (fun c_129 => ?_) (fun c_129 => ?_)
          · refine z_iconst C dX0_site_136 ?_
            refine z_cV (n := 2) (As := [.int (zI ((kq : Nat) : Int)), .int (zI 0)]) (rest := []) C hP (k_X4_j l D dA (sp) (w) (le) (rg) (st) (sd) (qa) (ql) (qf) (up) (dn) (fa) (fl) (kq) (false) (by first | with_reducible assumption | omega | with_reducible rfl)) (lw_V q827 q828 q829 q115 q830) (by decide +kernel) rfl ⟨Nat.le_of_ble_eq_true rfl, Nat.le_of_ble_eq_true rfl⟩ hl.1 (hP.sub [1, 2, 3] rfl) 1 rfl rfl rfl (Nat.le_of_ble_eq_true rfl) dX0_site_137 (Nat.zero_le _) (Nat.zero_le _) ?_
            refine z_nm (fun jv_2 e_jv_2 => ?_)
            exact z_iret C hlk hr hQ (by first | (exfalso; omega) | (rw [if_pos (by omega), if_neg (by omega), if_neg (by omega), if_neg (by omega), if_neg (by omega), if_pos hsw_15, Int.toNat_natCast]; first | (rw [if_pos (by omega)]; done) | (rw [if_neg (by omega), e_jv_2]; rfl)) | (rw [if_pos (by omega), if_neg (by omega), if_neg (by omega), if_neg (by omega), if_neg (by omega), if_neg (by omega), if_pos hsw_15, Int.toNat_natCast]; first | (rw [if_pos (by omega)]; done) | (rw [if_neg (by omega), e_jv_2]; rfl))) dX0_site_140
          · refine z_iconst C dX0_site_132 ?_
            refine lv_goto (tgt := 137) hx hb dX0_site_133 (by decide) ?_
            refine z_cV (n := 2) (As := [.int (zI ((kq : Nat) : Int)), .int (zI 1)]) (rest := []) C hP (k_X4_j l D dA (sp) (w) (le) (rg) (st) (sd) (qa) (ql) (qf) (up) (dn) (fa) (fl) (kq) (true) (by first | with_reducible assumption | omega | with_reducible rfl)) (lw_V q827 q828 q829 q115 q830) (by decide +kernel) rfl ⟨Nat.le_of_ble_eq_true rfl, Nat.le_of_ble_eq_true rfl⟩ hl.1 (hP.sub [1, 2, 3] rfl) 1 rfl rfl rfl (Nat.le_of_ble_eq_true rfl) dX0_site_137 (Nat.zero_le _) (Nat.zero_le _) ?_
            refine z_nm (fun jv_3 e_jv_3 => ?_)
            exact z_iret C hlk hr hQ (by first | (exfalso; omega) | (rw [if_pos (by omega), if_neg (by omega), if_neg (by omega), if_neg (by omega), if_neg (by omega), if_pos hsw_15, Int.toNat_natCast]; first | (rw [if_pos (by omega)]; done) | (rw [if_neg (by omega), e_jv_3]; rfl)) | (rw [if_pos (by omega), if_neg (by omega), if_neg (by omega), if_neg (by omega), if_neg (by omega), if_neg (by omega), if_pos hsw_15, Int.toNat_natCast]; first | (rw [if_pos (by omega)]; done) | (rw [if_neg (by omega), e_jv_3]; rfl))) dX0_site_140
        · refine z_bipush C dX0_site_117 rfl ?_
          refine lv_goto (tgt := 140) hx hb dX0_site_119 (by decide) ?_
          exact z_iret C hlk hr hQ (by first | (exfalso; omega) | (rw [if_pos (by omega), if_neg (by omega), if_neg (by omega), if_neg (by omega), if_neg (by omega), if_pos hsw_15, Int.toNat_natCast]; first | (rw [if_pos (by omega)]; done) | (rw [if_neg (by omega), e_jv_3]; rfl)) | (rw [if_pos (by omega), if_neg (by omega), if_neg (by omega), if_neg (by omega), if_neg (by omega), if_neg (by omega), if_pos hsw_15, Int.toNat_natCast]; first | (rw [if_pos (by omega)]; done) | (rw [if_neg (by omega), e_jv_3]; rfl))) dX0_site_140
      · refine z_iconst C dX0_site_106 ?_
        refine lv_goto (tgt := 111) hx hb dX0_site_107 (by decide) ?_
        refine z_cV (n := 2) (As := [.int (zI ((kq : Nat) : Int)), .int (zI 1)]) (rest := []) C hP (k_X4_other l D dA (sp) (w) (le) (rg) (st) (sd) (qa) (ql) (qf) (up) (dn) (kq) (true) (by first | with_reducible assumption | omega | with_reducible rfl) (by first | with_reducible assumption | omega | with_reducible rfl) (by first | with_reducible assumption | omega | with_reducible rfl)) (lw_V q825 q784 q785 q115 q786) (by decide +kernel) rfl ⟨Nat.le_of_ble_eq_true rfl, Nat.le_of_ble_eq_true rfl⟩ hl.1 (hP.sub [1] rfl) 1 rfl rfl rfl (Nat.le_of_ble_eq_true rfl) dX0_site_111 (Nat.zero_le _) (Nat.zero_le _) ?_
        refine z_if_ge (tgt := 122) C ⟨by omega, by omega⟩ dX0_site_114 (by decide) (fun c_114 => ?_) (fun c_114 => ?_)
        · refine lv_aload_n hx hb dX0_site_122 rfl (lv_at hl 0 rfl) ?_
          refine z_get C hP 0 rfl rfl in_X0 3 (by decide) q528 rfl dX0_site_123 ?_
          refine lv_iload_n hx hb dX0_site_126 rfl (lv_at hl 1 rfl) ?_
          refine lv_iload_n hx hb dX0_site_127 rfl (lv_at hl 2 rfl) ?_
          refine z_iconst C dX0_site_128 ?_
          refine z_icmp_ne (tgt := 136) C ⟨by omega, by omega⟩ ⟨by decide, by decide⟩ dX0_site_129 (by decide) (fun c_129 => ?_) (fun c_129 => ?_)
          · refine z_iconst C dX0_site_136 ?_
            refine z_cV (n := 2) (As := [.int (zI ((kq : Nat) : Int)), .int (zI 0)]) (rest := []) C hP (k_X4_j l D dA (sp) (w) (le) (rg) (st) (sd) (qa) (ql) (qf) (up) (dn) (fa) (fl) (kq) (false) (by first | with_reducible assumption | omega | with_reducible rfl)) (lw_V q827 q828 q829 q115 q830) (by decide +kernel) rfl ⟨Nat.le_of_ble_eq_true rfl, Nat.le_of_ble_eq_true rfl⟩ hl.1 (hP.sub [1, 2, 3] rfl) 1 rfl rfl rfl (Nat.le_of_ble_eq_true rfl) dX0_site_137 (Nat.zero_le _) (Nat.zero_le _) ?_
            refine z_nm (fun jv_4 e_jv_4 => ?_)
            exact z_iret C hlk hr hQ (by first | (exfalso; omega) | (rw [if_pos (by omega), if_neg (by omega), if_neg (by omega), if_neg (by omega), if_neg (by omega), if_pos hsw_15, Int.toNat_natCast]; first | (rw [if_pos (by omega)]; done) | (rw [if_neg (by omega), e_jv_4]; rfl)) | (rw [if_pos (by omega), if_neg (by omega), if_neg (by omega), if_neg (by omega), if_neg (by omega), if_neg (by omega), if_pos hsw_15, Int.toNat_natCast]; first | (rw [if_pos (by omega)]; done) | (rw [if_neg (by omega), e_jv_4]; rfl))) dX0_site_140
          · refine z_iconst C dX0_site_132 ?_
            refine lv_goto (tgt := 137) hx hb dX0_site_133 (by decide) ?_
            refine z_cV (n := 2) (As := [.int (zI ((kq : Nat) : Int)), .int (zI 1)]) (rest := []) C hP (k_X4_j l D dA (sp) (w) (le) (rg) (st) (sd) (qa) (ql) (qf) (up) (dn) (fa) (fl) (kq) (true) (by first | with_reducible assumption | omega | with_reducible rfl)) (lw_V q827 q828 q829 q115 q830) (by decide +kernel) rfl ⟨Nat.le_of_ble_eq_true rfl, Nat.le_of_ble_eq_true rfl⟩ hl.1 (hP.sub [1, 2, 3] rfl) 1 rfl rfl rfl (Nat.le_of_ble_eq_true rfl) dX0_site_137 (Nat.zero_le _) (Nat.zero_le _) ?_
            refine z_nm (fun jv_5 e_jv_5 => ?_)
            exact z_iret C hlk hr hQ (by first | (exfalso; omega) | (rw [if_pos (by omega), if_neg (by omega), if_neg (by omega), if_neg (by omega), if_neg (by omega), if_pos hsw_15, Int.toNat_natCast]; first | (rw [if_pos (by omega)]; done) | (rw [if_neg (by omega), e_jv_5]; rfl)) | (rw [if_pos (by omega), if_neg (by omega), if_neg (by omega), if_neg (by omega), if_neg (by omega), if_neg (by omega), if_pos hsw_15, Int.toNat_natCast]; first | (rw [if_pos (by omega)]; done) | (rw [if_neg (by omega), e_jv_5]; rfl))) dX0_site_140
        · refine z_bipush C dX0_site_117 rfl ?_
          refine lv_goto (tgt := 140) hx hb dX0_site_119 (by decide) ?_
          exact z_iret C hlk hr hQ (by first | (exfalso; omega) | (rw [if_pos (by omega), if_neg (by omega), if_neg (by omega), if_neg (by omega), if_neg (by omega), if_pos hsw_15, Int.toNat_natCast]; first | (rw [if_pos (by omega)]; done) | (rw [if_neg (by omega), e_jv_5]; rfl)) | (rw [if_pos (by omega), if_neg (by omega), if_neg (by omega), if_neg (by omega), if_neg (by omega), if_neg (by omega), if_pos hsw_15, Int.toNat_natCast]; first | (rw [if_pos (by omega)]; done) | (rw [if_neg (by omega), e_jv_5]; rfl))) dX0_site_140
    · rw [hsw_15]
      refine lv_tableIn (off := 81) (tgt := 96) hx hb dX0_site_15 (by decide) (by decide) rfl (by decide) ?_
      refine lv_aload_n hx hb dX0_site_96 rfl (lv_at hl 0 rfl) ?_
      refine z_get C hP 0 rfl rfl in_X0 3 (by decide) q528 rfl dX0_site_97 ?_
      refine lv_iload_n hx hb dX0_site_100 rfl (lv_at hl 1 rfl) ?_
      refine lv_iload_n hx hb dX0_site_101 rfl (lv_at hl 2 rfl) ?_
      refine z_iconst C dX0_site_102 ?_
      refine z_icmp_ne (tgt := 110) C ⟨by omega, by omega⟩ ⟨by decide, by decide⟩ dX0_site_103 (by decide) (fun c_103 => ?_) (fun c_103 => ?_)
      · refine z_iconst C dX0_site_110 ?_
        refine z_cV (n := 2) (As := [.int (zI ((kq : Nat) : Int)), .int (zI 0)]) (rest := []) C hP (k_X4_other l D dA (sp) (w) (le) (rg) (st) (sd) (qa) (ql) (qf) (up) (dn) (kq) (false) (by first | with_reducible assumption | omega | with_reducible rfl) (by first | with_reducible assumption | omega | with_reducible rfl) (by first | with_reducible assumption | omega | with_reducible rfl)) (lw_V q825 q784 q785 q115 q786) (by decide +kernel) rfl ⟨Nat.le_of_ble_eq_true rfl, Nat.le_of_ble_eq_true rfl⟩ hl.1 (hP.sub [1] rfl) 1 rfl rfl rfl (Nat.le_of_ble_eq_true rfl) dX0_site_111 (Nat.zero_le _) (Nat.zero_le _) ?_
        refine z_if_ge (tgt := 122) C ⟨by omega, by omega⟩ dX0_site_114 (by decide) (fun c_114 => ?_) (fun c_114 => ?_)
        · refine lv_aload_n hx hb dX0_site_122 rfl (lv_at hl 0 rfl) ?_
          refine z_get C hP 0 rfl rfl in_X0 3 (by decide) q528 rfl dX0_site_123 ?_
          refine lv_iload_n hx hb dX0_site_126 rfl (lv_at hl 1 rfl) ?_
          refine lv_iload_n hx hb dX0_site_127 rfl (lv_at hl 2 rfl) ?_
          refine z_iconst C dX0_site_128 ?_
          refine z_icmp_ne (tgt := 136) C ⟨by omega, by omega⟩ ⟨by decide, by decide⟩ dX0_site_129 (by decide) (fun c_129 => ?_) (fun c_129 => ?_)
          · refine z_iconst C dX0_site_136 ?_
            refine z_cV (n := 2) (As := [.int (zI ((kq : Nat) : Int)), .int (zI 0)]) (rest := []) C hP (k_X4_j l D dA (sp) (w) (le) (rg) (st) (sd) (qa) (ql) (qf) (up) (dn) (fa) (fl) (kq) (false) (by first | with_reducible assumption | omega | with_reducible rfl)) (lw_V q827 q828 q829 q115 q830) (by decide +kernel) rfl ⟨Nat.le_of_ble_eq_true rfl, Nat.le_of_ble_eq_true rfl⟩ hl.1 (hP.sub [1, 2, 3] rfl) 1 rfl rfl rfl (Nat.le_of_ble_eq_true rfl) dX0_site_137 (Nat.zero_le _) (Nat.zero_le _) ?_
            refine z_nm (fun jv_6 e_jv_6 => ?_)
            exact z_iret C hlk hr hQ (by first | (exfalso; omega) | (rw [if_pos (by omega), if_neg (by omega), if_neg (by omega), if_neg (by omega), if_neg (by omega), if_pos hsw_15, Int.toNat_natCast]; first | (rw [if_pos (by omega)]; done) | (rw [if_neg (by omega), e_jv_6]; rfl)) | (rw [if_pos (by omega), if_neg (by omega), if_neg (by omega), if_neg (by omega), if_neg (by omega), if_neg (by omega), if_pos hsw_15, Int.toNat_natCast]; first | (rw [if_pos (by omega)]; done) | (rw [if_neg (by omega), e_jv_6]; rfl))) dX0_site_140
          · refine z_iconst C dX0_site_132 ?_
            refine lv_goto (tgt := 137) hx hb dX0_site_133 (by decide) ?_
            refine z_cV (n := 2) (As := [.int (zI ((kq : Nat) : Int)), .int (zI 1)]) (rest := []) C hP (k_X4_j l D dA (sp) (w) (le) (rg) (st) (sd) (qa) (ql) (qf) (up) (dn) (fa) (fl) (kq) (true) (by first | with_reducible assumption | omega | with_reducible rfl)) (lw_V q827 q828 q829 q115 q830) (by decide +kernel) rfl ⟨Nat.le_of_ble_eq_true rfl, Nat.le_of_ble_eq_true rfl⟩ hl.1 (hP.sub [1, 2, 3] rfl) 1 rfl rfl rfl (Nat.le_of_ble_eq_true rfl) dX0_site_137 (Nat.zero_le _) (Nat.zero_le _) ?_
            refine z_nm (fun jv_7 e_jv_7 => ?_)
            exact z_iret C hlk hr hQ (by first | (exfalso; omega) | (rw [if_pos (by omega), if_neg (by omega), if_neg (by omega), if_neg (by omega), if_neg (by omega), if_pos hsw_15, Int.toNat_natCast]; first | (rw [if_pos (by omega)]; done) | (rw [if_neg (by omega), e_jv_7]; rfl)) | (rw [if_pos (by omega), if_neg (by omega), if_neg (by omega), if_neg (by omega), if_neg (by omega), if_neg (by omega), if_pos hsw_15, Int.toNat_natCast]; first | (rw [if_pos (by omega)]; done) | (rw [if_neg (by omega), e_jv_7]; rfl))) dX0_site_140
        · refine z_bipush C dX0_site_117 rfl ?_
          refine lv_goto (tgt := 140) hx hb dX0_site_119 (by decide) ?_
          exact z_iret C hlk hr hQ (by first | (exfalso; omega) | (rw [if_pos (by omega), if_neg (by omega), if_neg (by omega), if_neg (by omega), if_neg (by omega), if_pos hsw_15, Int.toNat_natCast]; first | (rw [if_pos (by omega)]; done) | (rw [if_neg (by omega), e_jv_7]; rfl)) | (rw [if_pos (by omega), if_neg (by omega), if_neg (by omega), if_neg (by omega), if_neg (by omega), if_neg (by omega), if_pos hsw_15, Int.toNat_natCast]; first | (rw [if_pos (by omega)]; done) | (rw [if_neg (by omega), e_jv_7]; rfl))) dX0_site_140
      · refine z_iconst C dX0_site_106 ?_
        refine lv_goto (tgt := 111) hx hb dX0_site_107 (by decide) ?_
        refine z_cV (n := 2) (As := [.int (zI ((kq : Nat) : Int)), .int (zI 1)]) (rest := []) C hP (k_X4_other l D dA (sp) (w) (le) (rg) (st) (sd) (qa) (ql) (qf) (up) (dn) (kq) (true) (by first | with_reducible assumption | omega | with_reducible rfl) (by first | with_reducible assumption | omega | with_reducible rfl) (by first | with_reducible assumption | omega | with_reducible rfl)) (lw_V q825 q784 q785 q115 q786) (by decide +kernel) rfl ⟨Nat.le_of_ble_eq_true rfl, Nat.le_of_ble_eq_true rfl⟩ hl.1 (hP.sub [1] rfl) 1 rfl rfl rfl (Nat.le_of_ble_eq_true rfl) dX0_site_111 (Nat.zero_le _) (Nat.zero_le _) ?_
        refine z_if_ge (tgt := 122) C ⟨by omega, by omega⟩ dX0_site_114 (by decide) (fun c_114 => ?_) (fun c_114 => ?_)
        · refine lv_aload_n hx hb dX0_site_122 rfl (lv_at hl 0 rfl) ?_
          refine z_get C hP 0 rfl rfl in_X0 3 (by decide) q528 rfl dX0_site_123 ?_
          refine lv_iload_n hx hb dX0_site_126 rfl (lv_at hl 1 rfl) ?_
          refine lv_iload_n hx hb dX0_site_127 rfl (lv_at hl 2 rfl) ?_
          refine z_iconst C dX0_site_128 ?_
          refine z_icmp_ne (tgt := 136) C ⟨by omega, by omega⟩ ⟨by decide, by decide⟩ dX0_site_129 (by decide) (fun c_129 => ?_) (fun c_129 => ?_)
          · refine z_iconst C dX0_site_136 ?_
            refine z_cV (n := 2) (As := [.int (zI ((kq : Nat) : Int)), .int (zI 0)]) (rest := []) C hP (k_X4_j l D dA (sp) (w) (le) (rg) (st) (sd) (qa) (ql) (qf) (up) (dn) (fa) (fl) (kq) (false) (by first | with_reducible assumption | omega | with_reducible rfl)) (lw_V q827 q828 q829 q115 q830) (by decide +kernel) rfl ⟨Nat.le_of_ble_eq_true rfl, Nat.le_of_ble_eq_true rfl⟩ hl.1 (hP.sub [1, 2, 3] rfl) 1 rfl rfl rfl (Nat.le_of_ble_eq_true rfl) dX0_site_137 (Nat.zero_le _) (Nat.zero_le _) ?_
            refine z_nm (fun jv_8 e_jv_8 => ?_)
            exact z_iret C hlk hr hQ (by first | (exfalso; omega) | (rw [if_pos (by omega), if_neg (by omega), if_neg (by omega), if_neg (by omega), if_neg (by omega), if_pos hsw_15, Int.toNat_natCast]; first | (rw [if_pos (by omega)]; done) | (rw [if_neg (by omega), e_jv_8]; rfl)) | (rw [if_pos (by omega), if_neg (by omega), if_neg (by omega), if_neg (by omega), if_neg (by omega), if_neg (by omega), if_pos hsw_15, Int.toNat_natCast]; first | (rw [if_pos (by omega)]; done) | (rw [if_neg (by omega), e_jv_8]; rfl))) dX0_site_140
          · refine z_iconst C dX0_site_132 ?_
            refine lv_goto (tgt := 137) hx hb dX0_site_133 (by decide) ?_
            refine z_cV (n := 2) (As := [.int (zI ((kq : Nat) : Int)), .int (zI 1)]) (rest := []) C hP (k_X4_j l D dA (sp) (w) (le) (rg) (st) (sd) (qa) (ql) (qf) (up) (dn) (fa) (fl) (kq) (true) (by first | with_reducible assumption | omega | with_reducible rfl)) (lw_V q827 q828 q829 q115 q830) (by decide +kernel) rfl ⟨Nat.le_of_ble_eq_true rfl, Nat.le_of_ble_eq_true rfl⟩ hl.1 (hP.sub [1, 2, 3] rfl) 1 rfl rfl rfl (Nat.le_of_ble_eq_true rfl) dX0_site_137 (Nat.zero_le _) (Nat.zero_le _) ?_
            refine z_nm (fun jv_9 e_jv_9 => ?_)
            exact z_iret C hlk hr hQ (by first | (exfalso; omega) | (rw [if_pos (by omega), if_neg (by omega), if_neg (by omega), if_neg (by omega), if_neg (by omega), if_pos hsw_15, Int.toNat_natCast]; first | (rw [if_pos (by omega)]; done) | (rw [if_neg (by omega), e_jv_9]; rfl)) | (rw [if_pos (by omega), if_neg (by omega), if_neg (by omega), if_neg (by omega), if_neg (by omega), if_neg (by omega), if_pos hsw_15, Int.toNat_natCast]; first | (rw [if_pos (by omega)]; done) | (rw [if_neg (by omega), e_jv_9]; rfl))) dX0_site_140
        · refine z_bipush C dX0_site_117 rfl ?_
          refine lv_goto (tgt := 140) hx hb dX0_site_119 (by decide) ?_
          exact z_iret C hlk hr hQ (by first | (exfalso; omega) | (rw [if_pos (by omega), if_neg (by omega), if_neg (by omega), if_neg (by omega), if_neg (by omega), if_pos hsw_15, Int.toNat_natCast]; first | (rw [if_pos (by omega)]; done) | (rw [if_neg (by omega), e_jv_9]; rfl)) | (rw [if_pos (by omega), if_neg (by omega), if_neg (by omega), if_neg (by omega), if_neg (by omega), if_neg (by omega), if_pos hsw_15, Int.toNat_natCast]; first | (rw [if_pos (by omega)]; done) | (rw [if_neg (by omega), e_jv_9]; rfl))) dX0_site_140
    · rw [hsw_15]
      refine lv_tableIn (off := 126) (tgt := 141) hx hb dX0_site_15 (by decide) (by decide) rfl (by decide) ?_
      refine lv_aload_n hx hb dX0_site_141 rfl (lv_at hl 0 rfl) ?_
      refine z_get C hP 0 rfl rfl in_X0 3 (by decide) q528 rfl dX0_site_142 ?_
      refine z_get C hP 1 rfl rfl in_X4 3 (by decide) q307 rfl dX0_site_145 ?_
      refine lv_iload_n hx hb dX0_site_148 rfl (lv_at hl 1 rfl) ?_
      refine z_cS (n := 2) (As := [.int (zI ((st : Nat) : Int)), .int (zI ((kq : Nat) : Int))]) (rest := []) C (k_X0_has l D dA (st) (kq) (by first | with_reducible assumption | omega | with_reducible rfl) (by first | with_reducible assumption | omega | with_reducible rfl)) (lw_S q917 q788 q108 q789) (by decide +kernel) rfl ⟨Nat.le_of_ble_eq_true rfl, Nat.le_of_ble_eq_true rfl⟩ hl.1 (hP.sub [] rfl) rfl (Nat.le_of_ble_eq_true rfl) dX0_site_149 (Nat.zero_le _) (Nat.zero_le _) ?_
      refine z_if_eqB (tgt := 159) C dX0_site_152 (by decide) (fun c_152 => ?_) (fun c_152 => ?_)
      · refine z_iconst C dX0_site_159 ?_
        exact z_iret C hlk hr hQ (by rw [if_pos (by omega), if_neg (by omega), if_neg (by omega), if_neg (by omega), if_neg (by omega), if_neg (by omega), if_neg (by omega), if_pos hsw_15, Int.toNat_natCast]; first | (rw [if_pos c_152]; done) | (rw [if_neg (by rw [c_152]; decide)]; done)) dX0_site_160
      · refine z_iconst C dX0_site_155 ?_
        refine lv_goto (tgt := 160) hx hb dX0_site_156 (by decide) ?_
        exact z_iret C hlk hr hQ (by rw [if_pos (by omega), if_neg (by omega), if_neg (by omega), if_neg (by omega), if_neg (by omega), if_neg (by omega), if_neg (by omega), if_pos hsw_15, Int.toNat_natCast]; first | (rw [if_pos c_152]; done) | (rw [if_neg (by rw [c_152]; decide)]; done)) dX0_site_160
    · rw [hsw_15]
      refine lv_tableIn (off := 146) (tgt := 161) hx hb dX0_site_15 (by decide) (by decide) rfl (by decide) ?_
      refine lv_aload_n hx hb dX0_site_161 rfl (lv_at hl 0 rfl) ?_
      refine z_get C hP 0 rfl rfl in_X0 3 (by decide) q528 rfl dX0_site_162 ?_
      refine lv_aload_n hx hb dX0_site_165 rfl (lv_at hl 0 rfl) ?_
      refine z_get C hP 0 rfl rfl in_X0 3 (by decide) q528 rfl dX0_site_166 ?_
      refine z_get C hP 1 rfl rfl in_X4 3 (by decide) q307 rfl dX0_site_169 ?_
      refine lv_iload_n hx hb dX0_site_172 rfl (lv_at hl 1 rfl) ?_
      refine z_cV (n := 2) (As := [.int (zI ((st : Nat) : Int)), .int (zI ((kq : Nat) : Int))]) (rest := []) C hP (k_X4_cost l D dA (sp) (w) (le) (rg) (st) (sd) (qa) (ql) (qf) (up) (dn) (fa) (fl) (ff) (st) (kq) (by first | with_reducible assumption | omega | with_reducible rfl) (by first | with_reducible assumption | omega | with_reducible rfl) (by first | with_reducible assumption | omega | with_reducible rfl) (by first | with_reducible assumption | omega | with_reducible rfl)) (lw_V q1402 q974 q975 q115 q976) (by decide +kernel) rfl ⟨Nat.le_of_ble_eq_true rfl, Nat.le_of_ble_eq_true rfl⟩ hl.1 (hP.sub [1, 2, 3, 4] rfl) 1 rfl rfl rfl (Nat.le_of_ble_eq_true rfl) dX0_site_173 (Nat.zero_le _) (Nat.zero_le _) ?_
      exact z_iret C hlk hr hQ (by rw [if_pos (by omega), if_neg (by omega), if_neg (by omega), if_neg (by omega), if_neg (by omega), if_neg (by omega), if_neg (by omega), if_neg (by omega), if_pos hsw_15, Int.toNat_natCast]) dX0_site_176
    · refine lv_tableOut (tgt := 177) hx hb dX0_site_15 (by rw [zI_toInt ⟨by omega, by omega⟩]; exact hsw_15) (by decide) ?_
      refine z_ldc C (-100000) q1401 rfl dX0_site_177 ?_
      exact z_iret C hlk hr hQ (by rw [if_pos (by omega), if_neg (by omega), if_neg (by omega), if_neg (by omega), if_neg (by omega), if_neg (by omega), if_neg (by omega), if_neg (by omega), if_neg (by omega)]) dX0_site_179
  · have c_8 := of_decide_eq_false c_8
    refine z_ldc C (-100000) q1401 rfl dX0_site_11 ?_
    exact z_iret C hlk hr hQ (by rw [if_neg (by omega)]) dX0_site_13
