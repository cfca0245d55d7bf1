set_option maxHeartbeats 600000 in
set_option maxRecDepth 100000 in
theorem k_X9_fall_0 (l : Launch) (D : va_G) (dA : Nat → ClassId) (a : Nat) (v0 v1 v2 v3 v4 v5 v6 v7 v8 v9 v10 v11 v12 v13 v14 v15 v16 v22 v23 v24 v25 v26 v37 v38 v39 v40 v41 v42 v43 v44 : Value) (w le lv es un qn qe qm qv qr qh qi : Nat) (ra rl kn : Bool) (h0 : w * le = 0) : zM l yX9_fall cX9_fall 2 (some .int) (zRm 1 20) D dA [.ref (a)] [(a, .inr (9, [v0, v1, v2, v3, v4, v5, v6, v7, v8, v9, v10, v11, v12, v13, v14, v15, v16, .int (zI ((w : Nat) : Int)), .int (zI ((le : Nat) : Int)), .int (zB (ra)), .int (zB (rl)), .ref (qn), v22, v23, v24, v25, v26, .ref (qr), .int (zI ((es : Nat) : Int)), .int (zI ((un : Nat) : Int)), .ref (qh), .ref (qi), .int (zB (kn)), .ref (qe), .ref (qm), .int (zI ((lv : Nat) : Int)), .ref (qv), v37, v38, v39, v40, v41, v42, v43, v44]))] (some (.int (zI (-1)))) := by
  refine zM.of (by decide +kernel) rfl ?_
  intro pp ee ss mm args below meth cd Q C hr hlk hQ hP ls hl
  have hx := C.1.1
  have hb := C.1.2.1
  have hl : lv_has ls 2 [(0, .ref (a))] := hl
  refine lv_aload_n hx hb dX9_fall_0 rfl (lv_at hl 0 rfl) ?_
  refine z_cV (n := 0) (As := []) (rest := []) C hP (k_X9_sites l D dA (a) (v0) (v1) (v2) (v3) (v4) (v5) (v6) (v7) (v8) (v9) (v10) (v11) (v12) (v13) (v14) (v15) (v16) (v22) (v23) (v24) (v25) (v26) (.ref (qr)) (.int (zI ((es : Nat) : Int))) (.int (zI ((un : Nat) : Int))) (.ref (qh)) (.ref (qi)) (.int (zB (kn))) (.ref (qe)) (.ref (qm)) (.int (zI ((lv : Nat) : Int))) (.ref (qv)) (v37) (v38) (v39) (v40) (v41) (v42) (v43) (v44) (w) (le) (ra) (rl) (qn)) (lw_V q2112 q2114 qs80 q124 q2115) (by decide +kernel) rfl ⟨Nat.le_of_ble_eq_true rfl, Nat.le_of_ble_eq_true rfl⟩ hl.1 (hP.sub [0] rfl) 0 rfl rfl rfl (Nat.le_of_ble_eq_true rfl) dX9_fall_1 (Nat.zero_le _) (Nat.zero_le _) ?_
  refine z_if_ne (tgt := 9) C ⟨by omega, by omega⟩ dX9_fall_4 (by decide) (fun c_4 => ?_) (fun c_4 => ?_)
  · exact absurd c_4 (by omega)
  · refine z_iconst C dX9_fall_7 ?_
    exact z_iret C hlk hr hQ (by first | rfl | omega) dX9_fall_8
set_option maxHeartbeats 600000 in
set_option maxRecDepth 100000 in
theorem k_X9_place (l : Launch) (D : va_G) (dA : Nat → ClassId) (a : Nat) (v0 v1 v2 v3 v4 v5 v6 v7 v8 v9 v10 v11 v12 v13 v14 v15 v17 v18 v19 v20 v21 v22 v23 v24 v25 v26 v27 v28 v29 v30 v31 v32 v33 v34 v35 v36 v37 v38 v39 v40 v41 v42 v43 v44 : Value) (pl : Int) : zM l yX9_place cX9_place 1 (some .int) (zRm 0 0) D dA [.ref (a)] [(a, .inr (9, [v0, v1, v2, v3, v4, v5, v6, v7, v8, v9, v10, v11, v12, v13, v14, v15, .int (zI (pl)), v17, v18, v19, v20, v21, v22, v23, v24, v25, v26, v27, v28, v29, v30, v31, v32, v33, v34, v35, v36, v37, v38, v39, v40, v41, v42, v43, v44]))] (some (.int (zI (pl)))) := by
  refine zM.of (by decide +kernel) rfl ?_
  intro pp ee ss mm args below meth cd Q C hr hlk hQ hP ls hl
  have hx := C.1.1
  have hb := C.1.2.1
  have hl : lv_has ls 1 [(0, .ref (a))] := hl
  refine lv_aload_n hx hb dX9_place_0 rfl (lv_at hl 0 rfl) ?_
  refine z_get C hP 0 rfl rfl in_X9 16 (by decide) q1900 rfl dX9_place_1 ?_
  exact z_iret C hlk hr hQ (by first | rfl | omega) dX9_place_4
set_option maxHeartbeats 600000 in
set_option maxRecDepth 100000 in
theorem k_X9_site (l : Launch) (D : va_G) (dA : Nat → ClassId) (a : Nat) (v0 v1 v2 v3 v4 v5 v6 v7 v8 v9 v10 v11 v12 v13 v14 v15 v16 v22 v23 v24 v25 v26 v27 v28 v29 v30 v31 v32 v33 v34 v35 v36 v37 v38 v39 v40 v41 v42 v43 v44 : Value) (w le : Nat) (ra rl : Bool) (qn : Nat) (f : Nat → Int) (st : Nat) (k wh : Int) (hwl : w * le ≤ 16) (hle : le ≤ 16) (h1 : zR k) (h2 : zR wh) (h64 : f 64 = (st : Int)) (hst : st < 65536) : zM l yX9_site cX9_site 3 (some .int) (zRm 4 97) D dA [.ref (a), .int (zI (k)), .int (zI (wh))] [(a, .inr (9, [v0, v1, v2, v3, v4, v5, v6, v7, v8, v9, v10, v11, v12, v13, v14, v15, v16, .int (zI ((w : Nat) : Int)), .int (zI ((le : Nat) : Int)), .int (zB (ra)), .int (zB (rl)), .ref (qn), v22, v23, v24, v25, v26, v27, v28, v29, v30, v31, v32, v33, v34, v35, v36, v37, v38, v39, v40, v41, v42, v43, v44])), (qn, .inl (dA 3, 66, .inl (fun jz => zI (f jz))))] (some (.int (zI ((if 0 ≤ k ∧ k < ((w * le : Nat) : Int) then (if wh = 0 then ((k.toNat / w : Nat) : Int) else if wh = 1 then ((k.toNat % w : Nat) : Int) else if wh = 2 then f (32 + k.toNat) else if wh = 3 then f (48 + k.toNat) else if wh = 4 then (if oth w le (rgOf ra rl) k.toNat false < 0 then 100 else f k.toNat) else if wh = 5 then (if oth w le (rgOf ra rl) k.toNat true < 0 then 100 else f (16 + k.toNat)) else if wh = 6 then (((st >>> k.toNat) &&& 1 : Nat) : Int) else if wh = 7 then enN w le (rgOf ra rl) le f (st ^^^ 2 ^ k.toNat) (w * le) - enN w le (rgOf ra rl) le f st (w * le) else -100000) else -100000))))) := by
  refine zM.of (by decide +kernel) rfl ?_
  intro pp ee ss mm args below meth cd Q C hr hlk hQ hP ls hl
  have hx := C.1.1
  have hb := C.1.2.1
  have hl : lv_has ls 3 [(0, .ref (a)), (1, .int (zI (k))), (2, .int (zI (wh)))] := hl
  refine lv_aload_n hx hb dX9_site_0 rfl (lv_at hl 0 rfl) ?_
  refine lv_iload_n hx hb dX9_site_1 rfl (lv_at hl 1 rfl) ?_
  refine z_cV (n := 1) (As := [.int (zI (k))]) (rest := []) C hP (k_X9_isSite l D dA (a) (v0) (v1) (v2) (v3) (v4) (v5) (v6) (v7) (v8) (v9) (v10) (v11) (v12) (v13) (v14) (v15) (v16) (v22) (v23) (v24) (v25) (v26) (v27) (v28) (v29) (v30) (v31) (v32) (v33) (v34) (v35) (v36) (v37) (v38) (v39) (v40) (v41) (v42) (v43) (v44) (w) (le) (ra) (rl) (qn) ((k)) (by first | with_reducible assumption | omega | with_reducible rfl) (by first | with_reducible assumption | omega | with_reducible rfl)) (lw_V q2124 q2126 qs81 q124 q2127) (by decide +kernel) rfl ⟨Nat.le_of_ble_eq_true rfl, Nat.le_of_ble_eq_true rfl⟩ hl.1 (hP.sub [0] rfl) 0 rfl rfl rfl (Nat.le_of_ble_eq_true rfl) dX9_site_2 (Nat.zero_le _) (Nat.zero_le _) ?_
  refine z_if_neB (tgt := 12) C dX9_site_5 (by decide) (fun c_5 => ?_) (fun c_5 => ?_)
  · have c_5 := of_decide_eq_true c_5
    obtain ⟨kq, rfl⟩ : ∃ q : Nat, k = (q : Int) := ⟨k.toNat, by omega⟩
    have hk : kq < w * le := by omega
    obtain ⟨g1, g2, g3, g4, g5, g6⟩ := kw_lt hk
    have g7 : w ≤ 16 := by have := Nat.le_mul_of_pos_right w g2; omega
    clear g3 g4 g5 g6
    refine lv_iload_n hx hb dX9_site_12 rfl (lv_at hl 2 rfl) ?_
    rcases (show (wh) = 0 ∨ (wh) = 1 ∨ (wh) = 2 ∨ (wh) = 3 ∨ (wh) = 4 ∨ (wh) = 5 ∨ (wh) = 6 ∨ (wh) = 7 ∨ ((wh) < 0 ∨ 7 < (wh)) by omega) with hsw_13 | hsw_13 | hsw_13 | hsw_13 | hsw_13 | hsw_13 | hsw_13 | hsw_13 | hsw_13
    · rw [hsw_13]
      refine lv_tableIn (off := 47) (tgt := 60) hx hb dX9_site_13 (by decide) (by decide) rfl (by decide) ?_
      refine lv_iload_n hx hb dX9_site_60 rfl (lv_at hl 1 rfl) ?_
      refine lv_aload_n hx hb dX9_site_61 rfl (lv_at hl 0 rfl) ?_
      refine z_get C hP 0 rfl rfl in_X9 17 (by decide) q1901 rfl dX9_site_62 ?_
      refine z_idivN C (kq) (w) rfl rfl (by omega) ⟨by omega, by omega⟩ dX9_site_65 ?_
      exact z_iret C hlk hr hQ (by rw [if_pos (by omega), if_pos hsw_13, Int.toNat_natCast]) dX9_site_66
    · rw [hsw_13]
      refine lv_tableIn (off := 54) (tgt := 67) hx hb dX9_site_13 (by decide) (by decide) rfl (by decide) ?_
      refine lv_iload_n hx hb dX9_site_67 rfl (lv_at hl 1 rfl) ?_
      refine lv_aload_n hx hb dX9_site_68 rfl (lv_at hl 0 rfl) ?_
      refine z_get C hP 0 rfl rfl in_X9 17 (by decide) q1901 rfl dX9_site_69 ?_
      refine z_iremN C (kq) (w) rfl rfl (by omega) ⟨by omega, by omega⟩ dX9_site_72 ?_
      exact z_iret C hlk hr hQ (by rw [if_pos (by omega), if_neg (by omega), if_pos hsw_13, Int.toNat_natCast]) dX9_site_73
    · rw [hsw_13]
      refine lv_tableIn (off := 61) (tgt := 74) hx hb dX9_site_13 (by decide) (by decide) rfl (by decide) ?_
      refine lv_aload_n hx hb dX9_site_74 rfl (lv_at hl 0 rfl) ?_
      refine z_get C hP 0 rfl rfl in_X9 21 (by decide) q1905 rfl dX9_site_75 ?_
      refine z_bipush C dX9_site_78 rfl ?_
      refine lv_iload_n hx hb dX9_site_80 rfl (lv_at hl 1 rfl) ?_
      refine z_iaddN C (32) (kq) rfl rfl dX9_site_81 ?_
      refine z_iald C hP 1 rfl ((32 + kq)) rfl (by omega) (by decide) dX9_site_82 ?_
      exact z_iret C hlk hr hQ (by rw [if_pos (by omega), if_neg (by omega), if_neg (by omega), if_pos hsw_13, Int.toNat_natCast]) dX9_site_83
    · rw [hsw_13]
      refine lv_tableIn (off := 71) (tgt := 84) hx hb dX9_site_13 (by decide) (by decide) rfl (by decide) ?_
      refine lv_aload_n hx hb dX9_site_84 rfl (lv_at hl 0 rfl) ?_
      refine z_get C hP 0 rfl rfl in_X9 21 (by decide) q1905 rfl dX9_site_85 ?_
      refine z_bipush C dX9_site_88 rfl ?_
      refine lv_iload_n hx hb dX9_site_90 rfl (lv_at hl 1 rfl) ?_
      refine z_iaddN C (48) (kq) rfl rfl dX9_site_91 ?_
      refine z_iald C hP 1 rfl ((48 + kq)) rfl (by omega) (by decide) dX9_site_92 ?_
      exact z_iret C hlk hr hQ (by rw [if_pos (by omega), if_neg (by omega), if_neg (by omega), if_neg (by omega), if_pos hsw_13, Int.toNat_natCast]) dX9_site_93
    · rw [hsw_13]
      refine lv_tableIn (off := 81) (tgt := 94) hx hb dX9_site_13 (by decide) (by decide) rfl (by decide) ?_
      refine lv_aload_n hx hb dX9_site_94 rfl (lv_at hl 0 rfl) ?_
      refine lv_iload_n hx hb dX9_site_95 rfl (lv_at hl 1 rfl) ?_
      refine z_iconst C dX9_site_96 ?_
      refine z_cV (n := 2) (As := [.int (zI ((kq : Nat) : Int)), .int (zI 0)]) (rest := []) C hP (k_X9_tieTo l D dA (a) (v0) (v1) (v2) (v3) (v4) (v5) (v6) (v7) (v8) (v9) (v10) (v11) (v12) (v13) (v14) (v15) (v16) (v22) (v23) (v24) (v25) (v26) (v27) (v28) (v29) (v30) (v31) (v32) (v33) (v34) (v35) (v36) (v37) (v38) (v39) (v40) (v41) (v42) (v43) (v44) (w) (le) (ra) (rl) (qn) (kq) (false) (by first | with_reducible assumption | omega | with_reducible rfl) (by first | with_reducible assumption | omega | with_reducible rfl)) (lw_V q2128 q2130 qs82 q124 q2131) (by decide +kernel) rfl ⟨Nat.le_of_ble_eq_true rfl, Nat.le_of_ble_eq_true rfl⟩ hl.1 (hP.sub [0] rfl) 0 rfl rfl rfl (Nat.le_of_ble_eq_true rfl) dX9_site_97 (Nat.zero_le _) (Nat.zero_le _) ?_
      have o9 := oth_lt (rgOf ra rl) false hk
      refine z_if_ge (tgt := 108) C ⟨by omega, by omega⟩ dX9_site_100 (by decide) (fun c_100 => ?_) (fun c_100 => ?_)
      · refine lv_aload_n hx hb dX9_site_108 rfl (lv_at hl 0 rfl) ?_
        refine z_get C hP 0 rfl rfl in_X9 21 (by decide) q1905 rfl dX9_site_109 ?_
        refine z_iconst C dX9_site_112 ?_
        refine lv_iload_n hx hb dX9_site_113 rfl (lv_at hl 1 rfl) ?_
        refine z_iadd0 C dX9_site_114 ?_
        refine z_iald C hP 1 rfl (kq) rfl (by omega) (by decide) dX9_site_115 ?_
        exact z_iret C hlk hr hQ (by rw [if_pos (by omega), if_neg (by omega), if_neg (by omega), if_neg (by omega), if_neg (by omega), if_pos hsw_13, Int.toNat_natCast]; first | (rw [if_pos (by omega)]; done) | (rw [if_neg (by omega)]; done)) dX9_site_116
      · refine z_bipush C dX9_site_103 rfl ?_
        refine lv_goto (tgt := 116) hx hb dX9_site_105 (by decide) ?_
        exact z_iret C hlk hr hQ (by rw [if_pos (by omega), if_neg (by omega), if_neg (by omega), if_neg (by omega), if_neg (by omega), if_pos hsw_13, Int.toNat_natCast]; first | (rw [if_pos (by omega)]; done) | (rw [if_neg (by omega)]; done)) dX9_site_116
    · rw [hsw_13]
      refine lv_tableIn (off := 104) (tgt := 117) hx hb dX9_site_13 (by decide) (by decide) rfl (by decide) ?_
      refine lv_aload_n hx hb dX9_site_117 rfl (lv_at hl 0 rfl) ?_
      refine lv_iload_n hx hb dX9_site_118 rfl (lv_at hl 1 rfl) ?_
      refine z_iconst C dX9_site_119 ?_
      refine z_cV (n := 2) (As := [.int (zI ((kq : Nat) : Int)), .int (zI 1)]) (rest := []) C hP (k_X9_tieTo l D dA (a) (v0) (v1) (v2) (v3) (v4) (v5) (v6) (v7) (v8) (v9) (v10) (v11) (v12) (v13) (v14) (v15) (v16) (v22) (v23) (v24) (v25) (v26) (v27) (v28) (v29) (v30) (v31) (v32) (v33) (v34) (v35) (v36) (v37) (v38) (v39) (v40) (v41) (v42) (v43) (v44) (w) (le) (ra) (rl) (qn) (kq) (true) (by first | with_reducible assumption | omega | with_reducible rfl) (by first | with_reducible assumption | omega | with_reducible rfl)) (lw_V q2128 q2130 qs82 q124 q2131) (by decide +kernel) rfl ⟨Nat.le_of_ble_eq_true rfl, Nat.le_of_ble_eq_true rfl⟩ hl.1 (hP.sub [0] rfl) 0 rfl rfl rfl (Nat.le_of_ble_eq_true rfl) dX9_site_120 (Nat.zero_le _) (Nat.zero_le _) ?_
      have o9 := oth_lt (rgOf ra rl) true hk
      refine z_if_ge (tgt := 131) C ⟨by omega, by omega⟩ dX9_site_123 (by decide) (fun c_123 => ?_) (fun c_123 => ?_)
      · refine lv_aload_n hx hb dX9_site_131 rfl (lv_at hl 0 rfl) ?_
        refine z_get C hP 0 rfl rfl in_X9 21 (by decide) q1905 rfl dX9_site_132 ?_
        refine z_bipush C dX9_site_135 rfl ?_
        refine lv_iload_n hx hb dX9_site_137 rfl (lv_at hl 1 rfl) ?_
        refine z_iaddN C (16) (kq) rfl rfl dX9_site_138 ?_
        refine z_iald C hP 1 rfl ((16 + kq)) rfl (by omega) (by decide) dX9_site_139 ?_
        exact z_iret C hlk hr hQ (by rw [if_pos (by omega), if_neg (by omega), if_neg (by omega), if_neg (by omega), if_neg (by omega), if_neg (by omega), if_pos hsw_13, Int.toNat_natCast]; first | (rw [if_pos (by omega)]; done) | (rw [if_neg (by omega)]; done)) dX9_site_140
      · refine z_bipush C dX9_site_126 rfl ?_
        refine lv_goto (tgt := 140) hx hb dX9_site_128 (by decide) ?_
        exact z_iret C hlk hr hQ (by rw [if_pos (by omega), if_neg (by omega), if_neg (by omega), if_neg (by omega), if_neg (by omega), if_neg (by omega), if_pos hsw_13, Int.toNat_natCast]; first | (rw [if_pos (by omega)]; done) | (rw [if_neg (by omega)]; done)) dX9_site_140
    · rw [hsw_13]
      refine lv_tableIn (off := 128) (tgt := 141) hx hb dX9_site_13 (by decide) (by decide) rfl (by decide) ?_
      refine lv_aload_n hx hb dX9_site_141 rfl (lv_at hl 0 rfl) ?_
      refine z_get C hP 0 rfl rfl in_X9 21 (by decide) q1905 rfl dX9_site_142 ?_
      refine z_bipush C dX9_site_145 rfl ?_
      refine z_iald C hP 1 rfl (64) rfl (by omega) (by decide) dX9_site_147 ?_
      rw [h64]
      refine lv_iload_n hx hb dX9_site_148 rfl (lv_at hl 1 rfl) ?_
      refine z_ishrN C (st) (kq) rfl rfl (by omega) (by omega) dX9_site_149 ?_
      refine z_iconst C dX9_site_150 ?_
      refine z_iand C ((st >>> kq)) (1) rfl rfl dX9_site_151 ?_
      exact z_iret C hlk hr hQ (by rw [if_pos (by omega), if_neg (by omega), if_neg (by omega), if_neg (by omega), if_neg (by omega), if_neg (by omega), if_neg (by omega), if_pos hsw_13, Int.toNat_natCast]) dX9_site_152
    · rw [hsw_13]
      refine lv_tableIn (off := 140) (tgt := 153) hx hb dX9_site_13 (by decide) (by decide) rfl (by decide) ?_
      refine lv_aload_n hx hb dX9_site_153 rfl (lv_at hl 0 rfl) ?_
      refine lv_aload_n hx hb dX9_site_154 rfl (lv_at hl 0 rfl) ?_
      refine z_get C hP 0 rfl rfl in_X9 21 (by decide) q1905 rfl dX9_site_155 ?_
      refine z_bipush C dX9_site_158 rfl ?_
      refine z_iald C hP 1 rfl (64) rfl (by omega) (by decide) dX9_site_160 ?_
      rw [h64]
      refine lv_iload_n hx hb dX9_site_161 rfl (lv_at hl 1 rfl) ?_
      refine z_cV (n := 2) (As := [.int (zI ((st : Nat) : Int)), .int (zI ((kq : Nat) : Int))]) (rest := []) C hP (k_X9_costOf l D dA (a) (v0) (v1) (v2) (v3) (v4) (v5) (v6) (v7) (v8) (v9) (v10) (v11) (v12) (v13) (v14) (v15) (v16) (v22) (v23) (v24) (v25) (v26) (v27) (v28) (v29) (v30) (v31) (v32) (v33) (v34) (v35) (v36) (v37) (v38) (v39) (v40) (v41) (v42) (v43) (v44) (w) (le) (ra) (rl) (qn) (f) (st) (kq) (by first | with_reducible assumption | omega | with_reducible rfl) (by first | with_reducible assumption | omega | with_reducible rfl) (by first | with_reducible assumption | omega | with_reducible rfl) (by first | with_reducible assumption | omega | with_reducible rfl)) (lw_V q2216 q2218 qs91 q124 q2219) (by decide +kernel) rfl ⟨Nat.le_of_ble_eq_true rfl, Nat.le_of_ble_eq_true rfl⟩ hl.1 (hP.sub [0, 1] rfl) 0 rfl rfl rfl (Nat.le_of_ble_eq_true rfl) dX9_site_162 (Nat.zero_le _) (Nat.zero_le _) ?_
      exact z_iret C hlk hr hQ (by rw [if_pos (by omega), if_neg (by omega), if_neg (by omega), if_neg (by omega), if_neg (by omega), if_neg (by omega), if_neg (by omega), if_neg (by omega), if_pos hsw_13, Int.toNat_natCast]) dX9_site_165
    · refine lv_tableOut (tgt := 166) hx hb dX9_site_13 (by rw [zI_toInt ⟨by omega, by omega⟩]; exact hsw_13) (by decide) ?_
      refine z_ldcw C (-100000) q2215 rfl dX9_site_166 ?_
      exact z_iret C hlk hr hQ (by rw [if_pos (by omega), if_neg (by omega), if_neg (by omega), if_neg (by omega), if_neg (by omega), if_neg (by omega), if_neg (by omega), if_neg (by omega), if_neg (by omega)]) dX9_site_169
  · have c_5 := of_decide_eq_false c_5
    refine z_ldcw C (-100000) q2215 rfl dX9_site_8 ?_
    exact z_iret C hlk hr hQ (by rw [if_neg (by omega)]) dX9_site_11
