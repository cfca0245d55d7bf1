set_option maxHeartbeats 600000 in
set_option maxRecDepth 100000 in
theorem k_X9_count (l : Launch) (D : va_G) (dA : Nat → ClassId) (a : Nat) (v0 v1 v3 v4 v5 v6 v7 v8 v9 v10 v11 v12 v13 v14 v15 v16 v22 v23 v24 v25 v26 v27 v28 v30 v32 v33 v34 v35 v36 v37 v38 v39 v40 v41 v42 v43 v44 : Value) (w le : Nat) (ra rl : Bool) (qn tp un qi : Nat) (f : Nat → Int) (ih : Nat → Bool) (st : Nat) (wh : Int) (hwl : w * le ≤ 16) (bo : ∀ j, -1000000 ≤ f j ∧ f j ≤ 1000000) (b3 : ∀ j, j < 32 → -3 ≤ f j ∧ f j ≤ 3) (h64 : f 64 = (st : Int)) (hst : st < 2147483648) (hwh : zR wh) : zM l yX9_count cX9_count 2 (some .int) (zRm 4 98) D dA [.ref (a), .int (zI (wh))] [(a, .inr (9, [v0, v1, .int (zI ((tp : Nat) : Int)), v3, v4, v5, v6, v7, v8, v9, v10, v11, v12, v13, v14, v15, v16, .int (zI ((w : Nat) : Int)), .int (zI ((le : Nat) : Int)), .int (zB (ra)), .int (zB (rl)), .ref (qn), v22, v23, v24, v25, v26, v27, v28, .int (zI ((un : Nat) : Int)), v30, .ref (qi), v32, v33, v34, v35, v36, v37, v38, v39, v40, v41, v42, v43, v44])), (qn, .inl (dA 3, 66, .inl (fun jz => zI (f jz)))), (qi, .inl (dA 0, 3, .inl (fun jz => zB (ih jz))))] (some (.int (zI ((if wh = 0 then ((w : Nat) : Int) else (if wh = 1 then ((le : Nat) : Int) else (if wh = 2 then ((st : Nat) : Int) else (if wh = 3 then ((cntN (lawM w le f) (nst w le) : Nat) : Int) else (if wh = 4 then ((pnN f (w * le) : Nat) : Int) else (if wh = 5 then ((tmN w le (rgOf ra rl) (2 * (w * le)) : Nat) : Int) else (if wh = 6 then ((tp : Nat) : Int) else (if wh = 7 then ((un : Nat) : Int) else (if wh = 8 then ((if ih 0 = true then 1 else 0) + (if ih 1 = true then 1 else 0) + (if ih 2 = true then 1 else 0) : Int) else (if wh = 9 then f 65 else (if wh = 10 then ((cntN (fun k => decide (mcl w le (rgOf ra rl) st k &&& (2 ^ k - 1) = 0)) (w * le) : Nat) : Int) else (if wh = 11 then ((mxN (fun k => pop (mcl w le (rgOf ra rl) st k)) (w * le) : Nat) : Int) else (if wh = 12 then ((rgOf ra rl : Nat) : Int) else (if wh = 13 then (if fwN (lawM w le f) (fun s => mbN w le (rgOf ra rl) f s (2 * (w * le))) (nst w le) < 0 then 0 else fwN (lawM w le f) (fun s => mbN w le (rgOf ra rl) f s (2 * (w * le))) (nst w le)) else (if wh = 14 then ((cntN (fun k => decide (sqr w le (rgOf ra rl) f (fun q => f (16 + q)) k = 1)) (w * le) : Nat) : Int) else -1))))))))))))))))))) := by
  refine zM.of (by decide +kernel) rfl ?_
  intro pp ee ss mm args below meth cd Q C hr hlk hQ hP ls hl
  have hx := C.1.1
  have hb := C.1.2.1
  have hl : lv_has ls 2 [(0, .ref (a)), (1, .int (zI (wh)))] := hl
  refine lv_iload_n hx hb dX9_count_0 rfl (lv_at hl 1 rfl) ?_
  rcases (show (wh) = 0 ∨ (wh) = 1 ∨ (wh) = 2 ∨ (wh) = 3 ∨ (wh) = 4 ∨ (wh) = 5 ∨ (wh) = 6 ∨ (wh) = 7 ∨ (wh) = 8 ∨ (wh) = 9 ∨ (wh) = 10 ∨ (wh) = 11 ∨ (wh) = 12 ∨ (wh) = 13 ∨ (wh) = 14 ∨ ((wh) < 0 ∨ 14 < (wh)) by omega) with hsw_1 | hsw_1 | hsw_1 | hsw_1 | hsw_1 | hsw_1 | hsw_1 | hsw_1 | hsw_1 | hsw_1 | hsw_1 | hsw_1 | hsw_1 | hsw_1 | hsw_1 | hsw_1
  · rw [hsw_1]
    refine lv_tableIn (off := 75) (tgt := 76) hx hb dX9_count_1 (by decide) (by decide) rfl (by decide) ?_
    refine lv_aload_n hx hb dX9_count_76 rfl (lv_at hl 0 rfl) ?_
    refine z_get C hP 0 rfl rfl in_X9 17 (by decide) q1901 rfl dX9_count_77 ?_
    exact z_iret C hlk hr hQ (by rw [if_pos hsw_1]) dX9_count_80
  · rw [hsw_1]
    refine lv_tableIn (off := 80) (tgt := 81) hx hb dX9_count_1 (by decide) (by decide) rfl (by decide) ?_
    refine lv_aload_n hx hb dX9_count_81 rfl (lv_at hl 0 rfl) ?_
    refine z_get C hP 0 rfl rfl in_X9 18 (by decide) q1902 rfl dX9_count_82 ?_
    exact z_iret C hlk hr hQ (by rw [if_neg (by omega), if_pos hsw_1]) dX9_count_85
  · rw [hsw_1]
    refine lv_tableIn (off := 85) (tgt := 86) hx hb dX9_count_1 (by decide) (by decide) rfl (by decide) ?_
    refine lv_aload_n hx hb dX9_count_86 rfl (lv_at hl 0 rfl) ?_
    refine z_get C hP 0 rfl rfl in_X9 21 (by decide) q1905 rfl dX9_count_87 ?_
    refine z_bipush C dX9_count_90 rfl ?_
    refine z_iald C hP 1 rfl (64) rfl (by omega) (by decide) dX9_count_92 ?_
    rw [h64]
    exact z_iret C hlk hr hQ (by rw [if_neg (by omega), if_neg (by omega), if_pos hsw_1]) dX9_count_93
  · rw [hsw_1]
    refine lv_tableIn (off := 93) (tgt := 94) hx hb dX9_count_1 (by decide) (by decide) rfl (by decide) ?_
    refine lv_aload_n hx hb dX9_count_94 rfl (lv_at hl 0 rfl) ?_
    refine z_cV (n := 0) (As := []) (rest := []) C hP (k_X9_lawfulMany l D dA (a) (v0) (v1) (.int (zI ((tp : Nat) : Int))) (v3) (v4) (v5) (v6) (v7) (v8) (v9) (v10) (v11) (v12) (v13) (v14) (v15) (v16) (v22) (v23) (v24) (v25) (v26) (v27) (v28) (.int (zI ((un : Nat) : Int))) (v30) (.ref (qi)) (v32) (v33) (v34) (v35) (v36) (v37) (v38) (v39) (v40) (v41) (v42) (v43) (v44) (w) (le) (ra) (rl) (qn) (f) (by first | with_reducible assumption | omega | with_reducible rfl) (by first | with_reducible assumption | omega | with_reducible rfl)) (lw_V q2357 q2359 qs100 q124 q2360) (by decide +kernel) rfl ⟨Nat.le_of_ble_eq_true rfl, Nat.le_of_ble_eq_true rfl⟩ hl.1 (hP.sub [0, 1] rfl) 0 rfl rfl rfl (Nat.le_of_ble_eq_true rfl) dX9_count_95 (Nat.zero_le _) (Nat.zero_le _) ?_
    exact z_iret C hlk hr hQ (by rw [if_neg (by omega), if_neg (by omega), if_neg (by omega), if_pos hsw_1]) dX9_count_98
  · rw [hsw_1]
    refine lv_tableIn (off := 98) (tgt := 99) hx hb dX9_count_1 (by decide) (by decide) rfl (by decide) ?_
    refine lv_aload_n hx hb dX9_count_99 rfl (lv_at hl 0 rfl) ?_
    refine z_cV (n := 0) (As := []) (rest := []) C hP (k_X9_pinned l D dA (a) (v0) (v1) (.int (zI ((tp : Nat) : Int))) (v3) (v4) (v5) (v6) (v7) (v8) (v9) (v10) (v11) (v12) (v13) (v14) (v15) (v16) (v22) (v23) (v24) (v25) (v26) (v27) (v28) (.int (zI ((un : Nat) : Int))) (v30) (.ref (qi)) (v32) (v33) (v34) (v35) (v36) (v37) (v38) (v39) (v40) (v41) (v42) (v43) (v44) (w) (le) (ra) (rl) (qn) (f) (by first | with_reducible assumption | omega | with_reducible rfl) (by first | with_reducible assumption | omega | with_reducible rfl)) (lw_V q2361 q2363 qs101 q124 q2364) (by decide +kernel) rfl ⟨Nat.le_of_ble_eq_true rfl, Nat.le_of_ble_eq_true rfl⟩ hl.1 (hP.sub [0, 1] rfl) 0 rfl rfl rfl (Nat.le_of_ble_eq_true rfl) dX9_count_100 (Nat.zero_le _) (Nat.zero_le _) ?_
    exact z_iret C hlk hr hQ (by rw [if_neg (by omega), if_neg (by omega), if_neg (by omega), if_neg (by omega), if_pos hsw_1]) dX9_count_103
  · rw [hsw_1]
    refine lv_tableIn (off := 103) (tgt := 104) hx hb dX9_count_1 (by decide) (by decide) rfl (by decide) ?_
    refine lv_aload_n hx hb dX9_count_104 rfl (lv_at hl 0 rfl) ?_
    refine z_cV (n := 0) (As := []) (rest := []) C hP (k_X9_ties l D dA (a) (v0) (v1) (.int (zI ((tp : Nat) : Int))) (v3) (v4) (v5) (v6) (v7) (v8) (v9) (v10) (v11) (v12) (v13) (v14) (v15) (v16) (v22) (v23) (v24) (v25) (v26) (v27) (v28) (.int (zI ((un : Nat) : Int))) (v30) (.ref (qi)) (v32) (v33) (v34) (v35) (v36) (v37) (v38) (v39) (v40) (v41) (v42) (v43) (v44) (w) (le) (ra) (rl) (qn) (by first | with_reducible assumption | omega | with_reducible rfl)) (lw_V q2365 q2367 qs102 q124 q2368) (by decide +kernel) rfl ⟨Nat.le_of_ble_eq_true rfl, Nat.le_of_ble_eq_true rfl⟩ hl.1 (hP.sub [0] rfl) 0 rfl rfl rfl (Nat.le_of_ble_eq_true rfl) dX9_count_105 (Nat.zero_le _) (Nat.zero_le _) ?_
    exact z_iret C hlk hr hQ (by rw [if_neg (by omega), if_neg (by omega), if_neg (by omega), if_neg (by omega), if_neg (by omega), if_pos hsw_1]) dX9_count_108
  · rw [hsw_1]
    refine lv_tableIn (off := 108) (tgt := 109) hx hb dX9_count_1 (by decide) (by decide) rfl (by decide) ?_
    refine lv_aload_n hx hb dX9_count_109 rfl (lv_at hl 0 rfl) ?_
    refine z_get C hP 0 rfl rfl in_X9 2 (by decide) q1886 rfl dX9_count_110 ?_
    exact z_iret C hlk hr hQ (by rw [if_neg (by omega), if_neg (by omega), if_neg (by omega), if_neg (by omega), if_neg (by omega), if_neg (by omega), if_pos hsw_1]) dX9_count_113
  · rw [hsw_1]
    refine lv_tableIn (off := 113) (tgt := 114) hx hb dX9_count_1 (by decide) (by decide) rfl (by decide) ?_
    refine lv_aload_n hx hb dX9_count_114 rfl (lv_at hl 0 rfl) ?_
    refine z_get C hP 0 rfl rfl in_X9 29 (by decide) q1913 rfl dX9_count_115 ?_
    exact z_iret C hlk hr hQ (by rw [if_neg (by omega), if_neg (by omega), if_neg (by omega), if_neg (by omega), if_neg (by omega), if_neg (by omega), if_neg (by omega), if_pos hsw_1]) dX9_count_118
  · rw [hsw_1]
    refine lv_tableIn (off := 118) (tgt := 119) hx hb dX9_count_1 (by decide) (by decide) rfl (by decide) ?_
    refine lv_aload_n hx hb dX9_count_119 rfl (lv_at hl 0 rfl) ?_
    refine z_get C hP 0 rfl rfl in_X9 31 (by decide) q1915 rfl dX9_count_120 ?_
    refine z_iconst C dX9_count_123 ?_
    refine z_zald C hP 2 rfl (0) rfl (by omega) (by decide) dX9_count_124 ?_
    refine z_if_eqB (tgt := 132) C dX9_count_125 (by decide) (fun c_125 => ?_) (fun c_125 => ?_)
    · refine z_iconst C dX9_count_132 ?_
      refine lv_aload_n hx hb dX9_count_133 rfl (lv_at hl 0 rfl) ?_
      refine z_get C hP 0 rfl rfl in_X9 31 (by decide) q1915 rfl dX9_count_134 ?_
      refine z_iconst C dX9_count_137 ?_
      refine z_zald C hP 2 rfl (1) rfl (by omega) (by decide) dX9_count_138 ?_
      refine z_if_eqB (tgt := 146) C dX9_count_139 (by decide) (fun c_139 => ?_) (fun c_139 => ?_)
      · refine z_iconst C dX9_count_146 ?_
        refine z_iaddN C (0) (0) rfl rfl dX9_count_147 ?_
        refine lv_aload_n hx hb dX9_count_148 rfl (lv_at hl 0 rfl) ?_
        refine z_get C hP 0 rfl rfl in_X9 31 (by decide) q1915 rfl dX9_count_149 ?_
        refine z_iconst C dX9_count_152 ?_
        refine z_zald C hP 2 rfl (2) rfl (by omega) (by decide) dX9_count_153 ?_
        refine z_if_eqB (tgt := 161) C dX9_count_154 (by decide) (fun c_154 => ?_) (fun c_154 => ?_)
        · refine z_iconst C dX9_count_161 ?_
          refine z_iaddN C ((0 + 0)) (0) rfl rfl dX9_count_162 ?_
          exact z_iret C hlk hr hQ (by rw [if_neg (by omega), if_neg (by omega), if_neg (by omega), if_neg (by omega), if_neg (by omega), if_neg (by omega), if_neg (by omega), if_neg (by omega), if_pos hsw_1]; simp_all) dX9_count_163
        · refine z_iconst C dX9_count_157 ?_
          refine lv_goto (tgt := 162) hx hb dX9_count_158 (by decide) ?_
          refine z_iaddN C ((0 + 0)) (1) rfl rfl dX9_count_162 ?_
          exact z_iret C hlk hr hQ (by rw [if_neg (by omega), if_neg (by omega), if_neg (by omega), if_neg (by omega), if_neg (by omega), if_neg (by omega), if_neg (by omega), if_neg (by omega), if_pos hsw_1]; simp_all) dX9_count_163
      · refine z_iconst C dX9_count_142 ?_
        refine lv_goto (tgt := 147) hx hb dX9_count_143 (by decide) ?_
        refine z_iaddN C (0) (1) rfl rfl dX9_count_147 ?_
        refine lv_aload_n hx hb dX9_count_148 rfl (lv_at hl 0 rfl) ?_
        refine z_get C hP 0 rfl rfl in_X9 31 (by decide) q1915 rfl dX9_count_149 ?_
        refine z_iconst C dX9_count_152 ?_
        refine z_zald C hP 2 rfl (2) rfl (by omega) (by decide) dX9_count_153 ?_
        refine z_if_eqB (tgt := 161) C dX9_count_154 (by decide) (fun c_154 => ?_) (fun c_154 => ?_)
        · refine z_iconst C dX9_count_161 ?_
          refine z_iaddN C ((0 + 1)) (0) rfl rfl dX9_count_162 ?_
          exact z_iret C hlk hr hQ (by rw [if_neg (by omega), if_neg (by omega), if_neg (by omega), if_neg (by omega), if_neg (by omega), if_neg (by omega), if_neg (by omega), if_neg (by omega), if_pos hsw_1]; simp_all) dX9_count_163
        · refine z_iconst C dX9_count_157 ?_
          refine lv_goto (tgt := 162) hx hb dX9_count_158 (by decide) ?_
          refine z_iaddN C ((0 + 1)) (1) rfl rfl dX9_count_162 ?_
          exact z_iret C hlk hr hQ (by rw [if_neg (by omega), if_neg (by omega), if_neg (by omega), if_neg (by omega), if_neg (by omega), if_neg (by omega), if_neg (by omega), if_neg (by omega), if_pos hsw_1]; simp_all) dX9_count_163
    · refine z_iconst C dX9_count_128 ?_
      refine lv_goto (tgt := 133) hx hb dX9_count_129 (by decide) ?_
      refine lv_aload_n hx hb dX9_count_133 rfl (lv_at hl 0 rfl) ?_
      refine z_get C hP 0 rfl rfl in_X9 31 (by decide) q1915 rfl dX9_count_134 ?_
      refine z_iconst C dX9_count_137 ?_
      refine z_zald C hP 2 rfl (1) rfl (by omega) (by decide) dX9_count_138 ?_
      refine z_if_eqB (tgt := 146) C dX9_count_139 (by decide) (fun c_139 => ?_) (fun c_139 => ?_)
      · refine z_iconst C dX9_count_146 ?_
        refine z_iaddN C (1) (0) rfl rfl dX9_count_147 ?_
        refine lv_aload_n hx hb dX9_count_148 rfl (lv_at hl 0 rfl) ?_
        refine z_get C hP 0 rfl rfl in_X9 31 (by decide) q1915 rfl dX9_count_149 ?_
        refine z_iconst C dX9_count_152 ?_
        refine z_zald C hP 2 rfl (2) rfl (by omega) (by decide) dX9_count_153 ?_
        refine z_if_eqB (tgt := 161) C dX9_count_154 (by decide) (fun c_154 => ?_) (fun c_154 => ?_)
        · refine z_iconst C dX9_count_161 ?_
          refine z_iaddN C ((1 + 0)) (0) rfl rfl dX9_count_162 ?_
          exact z_iret C hlk hr hQ (by rw [if_neg (by omega), if_neg (by omega), if_neg (by omega), if_neg (by omega), if_neg (by omega), if_neg (by omega), if_neg (by omega), if_neg (by omega), if_pos hsw_1]; simp_all) dX9_count_163
        · refine z_iconst C dX9_count_157 ?_
          refine lv_goto (tgt := 162) hx hb dX9_count_158 (by decide) ?_
          refine z_iaddN C ((1 + 0)) (1) rfl rfl dX9_count_162 ?_
          exact z_iret C hlk hr hQ (by rw [if_neg (by omega), if_neg (by omega), if_neg (by omega), if_neg (by omega), if_neg (by omega), if_neg (by omega), if_neg (by omega), if_neg (by omega), if_pos hsw_1]; simp_all) dX9_count_163
      · refine z_iconst C dX9_count_142 ?_
        refine lv_goto (tgt := 147) hx hb dX9_count_143 (by decide) ?_
        refine z_iaddN C (1) (1) rfl rfl dX9_count_147 ?_
        refine lv_aload_n hx hb dX9_count_148 rfl (lv_at hl 0 rfl) ?_
        refine z_get C hP 0 rfl rfl in_X9 31 (by decide) q1915 rfl dX9_count_149 ?_
        refine z_iconst C dX9_count_152 ?_
        refine z_zald C hP 2 rfl (2) rfl (by omega) (by decide) dX9_count_153 ?_
        refine z_if_eqB (tgt := 161) C dX9_count_154 (by decide) (fun c_154 => ?_) (fun c_154 => ?_)
        · refine z_iconst C dX9_count_161 ?_
          refine z_iaddN C ((1 + 1)) (0) rfl rfl dX9_count_162 ?_
          exact z_iret C hlk hr hQ (by rw [if_neg (by omega), if_neg (by omega), if_neg (by omega), if_neg (by omega), if_neg (by omega), if_neg (by omega), if_neg (by omega), if_neg (by omega), if_pos hsw_1]; simp_all) dX9_count_163
        · refine z_iconst C dX9_count_157 ?_
          refine lv_goto (tgt := 162) hx hb dX9_count_158 (by decide) ?_
          refine z_iaddN C ((1 + 1)) (1) rfl rfl dX9_count_162 ?_
          exact z_iret C hlk hr hQ (by rw [if_neg (by omega), if_neg (by omega), if_neg (by omega), if_neg (by omega), if_neg (by omega), if_neg (by omega), if_neg (by omega), if_neg (by omega), if_pos hsw_1]; simp_all) dX9_count_163
  · rw [hsw_1]
    refine lv_tableIn (off := 163) (tgt := 164) hx hb dX9_count_1 (by decide) (by decide) rfl (by decide) ?_
    refine lv_aload_n hx hb dX9_count_164 rfl (lv_at hl 0 rfl) ?_
    refine z_get C hP 0 rfl rfl in_X9 21 (by decide) q1905 rfl dX9_count_165 ?_
    refine z_bipush C dX9_count_168 rfl ?_
    refine z_iald C hP 1 rfl (65) rfl (by omega) (by decide) dX9_count_170 ?_
    exact z_iret C hlk hr hQ (by rw [if_neg (by omega), if_neg (by omega), if_neg (by omega), if_neg (by omega), if_neg (by omega), if_neg (by omega), if_neg (by omega), if_neg (by omega), if_neg (by omega), if_pos hsw_1]) dX9_count_171
  · rw [hsw_1]
    refine lv_tableIn (off := 171) (tgt := 172) hx hb dX9_count_1 (by decide) (by decide) rfl (by decide) ?_
    refine lv_aload_n hx hb dX9_count_172 rfl (lv_at hl 0 rfl) ?_
    refine z_cV (n := 0) (As := []) (rest := []) C hP (k_X9_clusters l D dA (a) (v0) (v1) (.int (zI ((tp : Nat) : Int))) (v3) (v4) (v5) (v6) (v7) (v8) (v9) (v10) (v11) (v12) (v13) (v14) (v15) (v16) (v22) (v23) (v24) (v25) (v26) (v27) (v28) (.int (zI ((un : Nat) : Int))) (v30) (.ref (qi)) (v32) (v33) (v34) (v35) (v36) (v37) (v38) (v39) (v40) (v41) (v42) (v43) (v44) (w) (le) (ra) (rl) (qn) (f) (st) (by first | with_reducible assumption | omega | with_reducible rfl) (by first | with_reducible assumption | omega | with_reducible rfl) (by first | with_reducible assumption | omega | with_reducible rfl)) (lw_V q2369 q2371 qs103 q124 q2372) (by decide +kernel) rfl ⟨Nat.le_of_ble_eq_true rfl, Nat.le_of_ble_eq_true rfl⟩ hl.1 (hP.sub [0, 1] rfl) 0 rfl rfl rfl (Nat.le_of_ble_eq_true rfl) dX9_count_173 (Nat.zero_le _) (Nat.zero_le _) ?_
    exact z_iret C hlk hr hQ (by rw [if_neg (by omega), if_neg (by omega), if_neg (by omega), if_neg (by omega), if_neg (by omega), if_neg (by omega), if_neg (by omega), if_neg (by omega), if_neg (by omega), if_neg (by omega), if_pos hsw_1]) dX9_count_176
  · rw [hsw_1]
    refine lv_tableIn (off := 176) (tgt := 177) hx hb dX9_count_1 (by decide) (by decide) rfl (by decide) ?_
    refine lv_aload_n hx hb dX9_count_177 rfl (lv_at hl 0 rfl) ?_
    refine z_cV (n := 0) (As := []) (rest := []) C hP (k_X9_greatest l D dA (a) (v0) (v1) (.int (zI ((tp : Nat) : Int))) (v3) (v4) (v5) (v6) (v7) (v8) (v9) (v10) (v11) (v12) (v13) (v14) (v15) (v16) (v22) (v23) (v24) (v25) (v26) (v27) (v28) (.int (zI ((un : Nat) : Int))) (v30) (.ref (qi)) (v32) (v33) (v34) (v35) (v36) (v37) (v38) (v39) (v40) (v41) (v42) (v43) (v44) (w) (le) (ra) (rl) (qn) (f) (st) (by first | with_reducible assumption | omega | with_reducible rfl) (by first | with_reducible assumption | omega | with_reducible rfl) (by first | with_reducible assumption | omega | with_reducible rfl)) (lw_V q2373 q2375 qs104 q124 q2376) (by decide +kernel) rfl ⟨Nat.le_of_ble_eq_true rfl, Nat.le_of_ble_eq_true rfl⟩ hl.1 (hP.sub [0, 1] rfl) 0 rfl rfl rfl (Nat.le_of_ble_eq_true rfl) dX9_count_178 (Nat.zero_le _) (Nat.zero_le _) ?_
    exact z_iret C hlk hr hQ (by rw [if_neg (by omega), if_neg (by omega), if_neg (by omega), if_neg (by omega), if_neg (by omega), if_neg (by omega), if_neg (by omega), if_neg (by omega), if_neg (by omega), if_neg (by omega), if_neg (by omega), if_pos hsw_1]) dX9_count_181
  · rw [hsw_1]
    refine lv_tableIn (off := 181) (tgt := 182) hx hb dX9_count_1 (by decide) (by decide) rfl (by decide) ?_
    refine lv_aload_n hx hb dX9_count_182 rfl (lv_at hl 0 rfl) ?_
    refine z_get C hP 0 rfl rfl in_X9 19 (by decide) q1903 rfl dX9_count_183 ?_
    refine z_if_eqB (tgt := 193) C dX9_count_186 (by decide) (fun c_186 => ?_) (fun c_186 => ?_)
    · refine z_iconst C dX9_count_193 ?_
      refine lv_aload_n hx hb dX9_count_194 rfl (lv_at hl 0 rfl) ?_
      refine z_get C hP 0 rfl rfl in_X9 20 (by decide) q1904 rfl dX9_count_195 ?_
      refine z_if_eqB (tgt := 205) C dX9_count_198 (by decide) (fun c_198 => ?_) (fun c_198 => ?_)
      · refine z_iconst C dX9_count_205 ?_
        refine z_iaddN C (0) (0) rfl rfl dX9_count_206 ?_
        exact z_iret C hlk hr hQ (by rw [if_neg (by omega), if_neg (by omega), if_neg (by omega), if_neg (by omega), if_neg (by omega), if_neg (by omega), if_neg (by omega), if_neg (by omega), if_neg (by omega), if_neg (by omega), if_neg (by omega), if_neg (by omega), if_pos hsw_1]; unfold rgOf; simp_all) dX9_count_207
      · refine z_iconst C dX9_count_201 ?_
        refine lv_goto (tgt := 206) hx hb dX9_count_202 (by decide) ?_
        refine z_iaddN C (0) (2) rfl rfl dX9_count_206 ?_
        exact z_iret C hlk hr hQ (by rw [if_neg (by omega), if_neg (by omega), if_neg (by omega), if_neg (by omega), if_neg (by omega), if_neg (by omega), if_neg (by omega), if_neg (by omega), if_neg (by omega), if_neg (by omega), if_neg (by omega), if_neg (by omega), if_pos hsw_1]; unfold rgOf; simp_all) dX9_count_207
    · refine z_iconst C dX9_count_189 ?_
      refine lv_goto (tgt := 194) hx hb dX9_count_190 (by decide) ?_
      refine lv_aload_n hx hb dX9_count_194 rfl (lv_at hl 0 rfl) ?_
      refine z_get C hP 0 rfl rfl in_X9 20 (by decide) q1904 rfl dX9_count_195 ?_
      refine z_if_eqB (tgt := 205) C dX9_count_198 (by decide) (fun c_198 => ?_) (fun c_198 => ?_)
      · refine z_iconst C dX9_count_205 ?_
        refine z_iaddN C (1) (0) rfl rfl dX9_count_206 ?_
        exact z_iret C hlk hr hQ (by rw [if_neg (by omega), if_neg (by omega), if_neg (by omega), if_neg (by omega), if_neg (by omega), if_neg (by omega), if_neg (by omega), if_neg (by omega), if_neg (by omega), if_neg (by omega), if_neg (by omega), if_neg (by omega), if_pos hsw_1]; unfold rgOf; simp_all) dX9_count_207
      · refine z_iconst C dX9_count_201 ?_
        refine lv_goto (tgt := 206) hx hb dX9_count_202 (by decide) ?_
        refine z_iaddN C (1) (2) rfl rfl dX9_count_206 ?_
        exact z_iret C hlk hr hQ (by rw [if_neg (by omega), if_neg (by omega), if_neg (by omega), if_neg (by omega), if_neg (by omega), if_neg (by omega), if_neg (by omega), if_neg (by omega), if_neg (by omega), if_neg (by omega), if_neg (by omega), if_neg (by omega), if_pos hsw_1]; unfold rgOf; simp_all) dX9_count_207
  · rw [hsw_1]
    refine lv_tableIn (off := 207) (tgt := 208) hx hb dX9_count_1 (by decide) (by decide) rfl (by decide) ?_
    refine lv_aload_n hx hb dX9_count_208 rfl (lv_at hl 0 rfl) ?_
    refine z_cV (n := 0) (As := []) (rest := []) C hP (k_X9_fewestBroken l D dA (a) (v0) (v1) (.int (zI ((tp : Nat) : Int))) (v3) (v4) (v5) (v6) (v7) (v8) (v9) (v10) (v11) (v12) (v13) (v14) (v15) (v16) (v22) (v23) (v24) (v25) (v26) (v27) (v28) (.int (zI ((un : Nat) : Int))) (v30) (.ref (qi)) (v32) (v33) (v34) (v35) (v36) (v37) (v38) (v39) (v40) (v41) (v42) (v43) (v44) (w) (le) (ra) (rl) (qn) (f) (by first | with_reducible assumption | omega | with_reducible rfl) (by first | with_reducible assumption | omega | with_reducible rfl)) (lw_V q2377 q2379 qs105 q124 q2380) (by decide +kernel) rfl ⟨Nat.le_of_ble_eq_true rfl, Nat.le_of_ble_eq_true rfl⟩ hl.1 (hP.sub [0, 1] rfl) 0 rfl rfl rfl (Nat.le_of_ble_eq_true rfl) dX9_count_209 (Nat.zero_le _) (Nat.zero_le _) ?_
    exact z_iret C hlk hr hQ (by rw [hsw_1]; rfl) dX9_count_212
  · rw [hsw_1]
    refine lv_tableIn (off := 212) (tgt := 213) hx hb dX9_count_1 (by decide) (by decide) rfl (by decide) ?_
    refine lv_aload_n hx hb dX9_count_213 rfl (lv_at hl 0 rfl) ?_
    refine z_cV (n := 0) (As := []) (rest := []) C hP (k_X9_odds l D dA (a) (v0) (v1) (.int (zI ((tp : Nat) : Int))) (v3) (v4) (v5) (v6) (v7) (v8) (v9) (v10) (v11) (v12) (v13) (v14) (v15) (v16) (v22) (v23) (v24) (v25) (v26) (v27) (v28) (.int (zI ((un : Nat) : Int))) (v30) (.ref (qi)) (v32) (v33) (v34) (v35) (v36) (v37) (v38) (v39) (v40) (v41) (v42) (v43) (v44) (w) (le) (ra) (rl) (qn) (f) (by first | with_reducible assumption | omega | with_reducible rfl) (by first | with_reducible assumption | omega | with_reducible rfl)) (lw_V q2381 q2383 qs106 q124 q2384) (by decide +kernel) rfl ⟨Nat.le_of_ble_eq_true rfl, Nat.le_of_ble_eq_true rfl⟩ hl.1 (hP.sub [0, 1] rfl) 0 rfl rfl rfl (Nat.le_of_ble_eq_true rfl) dX9_count_214 (Nat.zero_le _) (Nat.zero_le _) ?_
    exact z_iret C hlk hr hQ (by rw [if_neg (by omega), if_neg (by omega), if_neg (by omega), if_neg (by omega), if_neg (by omega), if_neg (by omega), if_neg (by omega), if_neg (by omega), if_neg (by omega), if_neg (by omega), if_neg (by omega), if_neg (by omega), if_neg (by omega), if_neg (by omega), if_pos hsw_1]) dX9_count_217
  · refine lv_tableOut (tgt := 218) hx hb dX9_count_1 (by rw [zI_toInt ⟨by omega, by omega⟩]; exact hsw_1) (by decide) ?_
    refine z_iconst C dX9_count_218 ?_
    exact z_iret C hlk hr hQ (by rw [if_neg (by omega), if_neg (by omega), if_neg (by omega), if_neg (by omega), if_neg (by omega), if_neg (by omega), if_neg (by omega), if_neg (by omega), if_neg (by omega), if_neg (by omega), if_neg (by omega), if_neg (by omega), if_neg (by omega), if_neg (by omega), if_neg (by omega)]) dX9_count_219
