set_option maxHeartbeats 600000 in
set_option maxRecDepth 100000 in
theorem k_X9_level (l : Launch) (D : va_G) (dA : Nat → ClassId) (a : Nat) (v0 v1 v2 v3 v4 v5 v6 v7 v8 v9 v10 v11 v12 v13 v14 v15 v16 v22 v23 v24 v25 v26 v37 v38 v39 v40 v41 v42 v43 v44 : Value) (w le lv es un qn qe qm qv qr qh qi : Nat) (ra rl kn : Bool) (nw eo lm la : Nat → Int) (i wh : Int) (hwl : w * le ≤ 16) (hle : le ≤ 16) (b3 : ∀ j, j < 48 → -3 ≤ nw j ∧ nw j ≤ 3) (bo : ∀ j, -1000000 ≤ nw j ∧ nw j ≤ 1000000) (be : ∀ j, -100000 ≤ eo j ∧ eo j ≤ 100000) (hkn : kn = true → KnP w le (rgOf ra rl) nw eo lm lv la) (h1 : zR i) (h2 : zR wh) : zG (S := (Nat → Int) × (Nat → Int) × (Nat → Int) × Nat × Bool) l yX9_level cX9_level 3 (some .int) (zRmW 4 96 0 0) D dA [.ref (a), .int (zI (i)), .int (zI (wh))] [(a, .inr (9, [v0, v1, v2, v3, v4, v5, v6, v7, v8, v9, v10, v11, v12, v13, v14, v15, v16, .int (zI ((w : Nat) : Int)), .int (zI ((le : Nat) : Int)), .int (zB (ra)), .int (zB (rl)), .ref (qn), v22, v23, v24, v25, v26, .ref (qr), .int (zI ((es : Nat) : Int)), .int (zI ((un : Nat) : Int)), .ref (qh), .ref (qi), .int (zB (kn)), .ref (qe), .ref (qm), .int (zI ((lv : Nat) : Int)), .ref (qv), v37, v38, v39, v40, v41, v42, v43, v44])), (qn, .inl (dA 3, 66, .inl (fun jz => zI (nw jz)))), (qe, .inl (dA 3, 65536, .inl (fun jz => zI (eo jz)))), (qm, .inl (dA 3, 301, .inl (fun jz => zI (lm jz)))), (qv, .inl (dA 3, 301, .inl (fun jz => zI (la jz))))] (fun u : (Nat → Int) × (Nat → Int) × (Nat → Int) × Nat × Bool => some (.int (zI ((if i = -1 then ((Lmany w le (rgOf ra rl) nw : Nat) : Int) else if 0 ≤ i ∧ i < ((Lmany w le (rgOf ra rl) nw : Nat) : Int) then (if wh = 0 then Lat w le (rgOf ra rl) nw i.toNat else if wh = 1 then ((Lc w le (rgOf ra rl) nw (150 + Lat w le (rgOf ra rl) nw i.toNat).toNat : Nat) : Int) else if wh = 2 then ((fstS (fun s => decide (eM w le (rgOf ra rl) nw s = Lat w le (rgOf ra rl) nw i.toNat)) (nst w le) : Nat) : Int) else if wh = 3 then 1 * upN (eM w le (rgOf ra rl) nw) (Lat w le (rgOf ra rl) nw i.toNat) 1 (nst w le) else if wh = 4 then (-1) * upN (eM w le (rgOf ra rl) nw) (Lat w le (rgOf ra rl) nw i.toNat) (-1) (nst w le) else -100000) else -100000))))) (fun u : (Nat → Int) × (Nat → Int) × (Nat → Int) × Nat × Bool => (u.2.2.2.2 = true → KnP w le (rgOf ra rl) nw u.1 u.2.1 u.2.2.2.1 u.2.2.1) ∧ ∀ j, -100000 ≤ u.1 j ∧ u.1 j ≤ 100000) (fun u : (Nat → Int) × (Nat → Int) × (Nat → Int) × Nat × Bool => [(a, .inr (9, [v0, v1, v2, v3, v4, v5, v6, v7, v8, v9, v10, v11, v12, v13, v14, v15, v16, .int (zI ((w : Nat) : Int)), .int (zI ((le : Nat) : Int)), .int (zB (ra)), .int (zB (rl)), .ref (qn), v22, v23, v24, v25, v26, .ref (qr), .int (zI ((es : Nat) : Int)), .int (zI ((un : Nat) : Int)), .ref (qh), .ref (qi), .int (zB (u.2.2.2.2)), .ref (qe), .ref (qm), .int (zI ((u.2.2.2.1 : Nat) : Int)), .ref (qv), v37, v38, v39, v40, v41, v42, v43, v44])), (qn, .inl (dA 3, 66, .inl (fun jz => zI (nw jz)))), (qe, .inl (dA 3, 65536, .inl (fun jz => zI (u.1 jz)))), (qm, .inl (dA 3, 301, .inl (fun jz => zI (u.2.1 jz)))), (qv, .inl (dA 3, 301, .inl (fun jz => zI (u.2.2.1 jz))))]) := by
  refine zG.of (by decide +kernel) rfl ?_
  intro pp ee ss mm args below meth cd Q A C hr hlk hQ hA hin H locs hP hD hS ls hl
  have hx := C.1.1
  have hb := C.1.2.1
  have hl : lv_has ls 3 [(0, .ref (a)), (1, .int (zI (i))), (2, .int (zI (wh)))] := hl
  have hns : nst w le ≤ 65536 := nst_le hwl
  refine lv_aload_n hx hb dX9_level_0 rfl (lv_at hl 0 rfl) ?_
  refine z_gV (n := 0) (As := []) (rest := []) (wc := [(a, .inr (9, [v0, v1, v2, v3, v4, v5, v6, v7, v8, v9, v10, v11, v12, v13, v14, v15, v16, .int (zI ((w : Nat) : Int)), .int (zI ((le : Nat) : Int)), .int (zB (ra)), .int (zB (rl)), .ref (qn), v22, v23, v24, v25, v26, .ref (qr), .int (zI ((es : Nat) : Int)), .int (zI ((un : Nat) : Int)), .ref (qh), .ref (qi), .int (zB (kn)), .ref (qe), .ref (qm), .int (zI ((lv : Nat) : Int)), .ref (qv), v37, v38, v39, v40, v41, v42, v43, v44])), (qn, .inl (dA 3, 66, .inl (fun jz => zI (nw jz)))), (qe, .inl (dA 3, 65536, .inl (fun jz => zI (eo jz)))), (qm, .inl (dA 3, 301, .inl (fun jz => zI (lm jz)))), (qv, .inl (dA 3, 301, .inl (fun jz => zI (la jz))))]) (wr := []) C hP hD hS hA [0, 1, 2, 3, 4] [] rfl rfl (by decide) (by decide) (by decide) (k_X9_knows l D dA (a) (v0) (v1) (v2) (v3) (v4) (v5) (v6) (v7) (v8) (v9) (v10) (v11) (v12) (v13) (v14) (v15) (v16) (v22) (v23) (v24) (v25) (v26) (v37) (v38) (v39) (v40) (v41) (v42) (v43) (v44) (w) (le) (lv) (es) (un) (qn) (qe) (qm) (qv) (qr) (qh) (qi) (ra) (rl) (kn) (nw) (eo) (lm) (la) (by first | with_reducible assumption | omega | with_reducible rfl) (by first | with_reducible assumption | omega | with_reducible rfl) (by first | with_reducible assumption | omega | with_reducible rfl) (by first | with_reducible assumption | omega | with_reducible rfl) (by first | with_reducible assumption | omega | with_reducible rfl) (by first | with_reducible assumption | omega | with_reducible rfl)) (lw_V q2167 q2169 qs84 q124 q2170) (by decide +kernel) rfl ⟨Nat.le_of_ble_eq_true rfl, Nat.le_of_ble_eq_true rfl⟩ hl.1 0 rfl rfl rfl (Nat.le_of_ble_eq_true rfl) dX9_level_1 (by decide) (by decide) (fun u_1 H locs hp_1 hP hD hS _ => ?_)
  obtain ⟨eo1_1, lm1_2, la1_3, lv1_4⟩ := u_1
  have hP := hP.sub (ws' := [(a, .inr (9, [v0, v1, v2, v3, v4, v5, v6, v7, v8, v9, v10, v11, v12, v13, v14, v15, v16, .int (zI ((w : Nat) : Int)), .int (zI ((le : Nat) : Int)), .int (zB (ra)), .int (zB (rl)), .ref (qn), v22, v23, v24, v25, v26, .ref (qr), .int (zI ((es : Nat) : Int)), .int (zI ((un : Nat) : Int)), .ref (qh), .ref (qi), .int (zB (true)), .ref (qe), .ref (qm), .int (zI ((lv1_4 : Nat) : Int)), .ref (qv), v37, v38, v39, v40, v41, v42, v43, v44])), (qn, .inl (dA 3, 66, .inl (fun jz => zI (nw jz)))), (qe, .inl (dA 3, 65536, .inl (fun jz => zI (eo1_1 jz)))), (qm, .inl (dA 3, 301, .inl (fun jz => zI (lm1_2 jz)))), (qv, .inl (dA 3, 301, .inl (fun jz => zI (la1_3 jz))))]) [0, 1, 2, 3, 4] rfl
  have hD := hD.sub (ws' := [(a, .inr (9, [v0, v1, v2, v3, v4, v5, v6, v7, v8, v9, v10, v11, v12, v13, v14, v15, v16, .int (zI ((w : Nat) : Int)), .int (zI ((le : Nat) : Int)), .int (zB (ra)), .int (zB (rl)), .ref (qn), v22, v23, v24, v25, v26, .ref (qr), .int (zI ((es : Nat) : Int)), .int (zI ((un : Nat) : Int)), .ref (qh), .ref (qi), .int (zB (true)), .ref (qe), .ref (qm), .int (zI ((lv1_4 : Nat) : Int)), .ref (qv), v37, v38, v39, v40, v41, v42, v43, v44])), (qn, .inl (dA 3, 66, .inl (fun jz => zI (nw jz)))), (qe, .inl (dA 3, 65536, .inl (fun jz => zI (eo1_1 jz)))), (qm, .inl (dA 3, 301, .inl (fun jz => zI (lm1_2 jz)))), (qv, .inl (dA 3, 301, .inl (fun jz => zI (la1_3 jz))))]) [0, 1, 2, 3, 4] (by decide) rfl
  have hp_1 : KnP w le (rgOf ra rl) nw eo1_1 lm1_2 lv1_4 la1_3 ∧ ∀ j, -100000 ≤ eo1_1 j ∧ eo1_1 j ≤ 100000 := hp_1
  refine W.widen (k := 0) (n := 0) (Nat.le_of_ble_eq_true rfl) (Nat.le_of_ble_eq_true rfl) ?_
  have lv9 := Kn_lv hp_1.1
  have lv8 := Lmany_le w le (rgOf ra rl) nw
  refine lv_iload_n hx hb dX9_level_4 rfl (lv_at hl 1 rfl) ?_
  refine z_iconst C dX9_level_5 ?_
  refine z_icmp_ne (tgt := 14) C ⟨by omega, by omega⟩ ⟨by decide, by decide⟩ dX9_level_6 (by decide) (fun c_6 => ?_) (fun c_6 => ?_)
  · refine lv_iload_n hx hb dX9_level_14 rfl (lv_at hl 1 rfl) ?_
    refine z_iconst C dX9_level_15 ?_
    refine lv_aload_n hx hb dX9_level_16 rfl (lv_at hl 0 rfl) ?_
    refine z_get C hP 0 rfl rfl in_X9 35 (by decide) q1919 rfl dX9_level_17 ?_
    refine z_iconst C dX9_level_20 ?_
    refine z_isub C dX9_level_21 ?_
    refine z_cS (n := 3) (As := [.int (zI (i)), .int (zI 0), .int (zI (((lv1_4 : Nat) : Int) - 1))]) (rest := []) C (k_X9_in l D dA ((i)) (0) ((((lv1_4 : Nat) : Int) - 1)) (by first | with_reducible assumption | omega | with_reducible rfl) (by first | with_reducible assumption | omega | with_reducible rfl) (by first | with_reducible assumption | omega | with_reducible rfl)) (lw_S q2090 q2091 q124 q2092) (by decide +kernel) rfl ⟨Nat.le_of_ble_eq_true rfl, Nat.le_of_ble_eq_true rfl⟩ hl.1 (hP.sub [] rfl) rfl (Nat.le_of_ble_eq_true rfl) dX9_level_22 (Nat.zero_le _) (Nat.zero_le _) ?_
    refine z_if_neB (tgt := 32) C dX9_level_25 (by decide) (fun c_25 => ?_) (fun c_25 => ?_)
    · have c_25 := of_decide_eq_true c_25
      obtain ⟨iN, rfl⟩ : ∃ q : Nat, i = (q : Int) := ⟨i.toNat, by omega⟩
      have l9 := Kn_la hp_1.1 (show iN < Lmany w le (rgOf ra rl) nw by omega)
      obtain ⟨gs, hg1, hg2⟩ := lat_ex hp_1.1 (show iN < Lmany w le (rgOf ra rl) nw by omega)
      have fs9 := fstS_lt (p := fun s => decide (eM w le (rgOf ra rl) nw s = Lat w le (rgOf ra rl) nw iN)) hg1 (decide_eq_true hg2)
      refine lv_iload_n hx hb dX9_level_32 rfl (lv_at hl 2 rfl) ?_
      rcases (show (wh) = 0 ∨ (wh) = 1 ∨ (wh) = 2 ∨ (wh) = 3 ∨ (wh) = 4 ∨ ((wh) < 0 ∨ 4 < (wh)) by omega) with hsw_33 | hsw_33 | hsw_33 | hsw_33 | hsw_33 | hsw_33
      · rw [hsw_33]
        refine lv_tableIn (off := 35) (tgt := 68) hx hb dX9_level_33 (by decide) (by decide) rfl (by decide) ?_
        refine lv_aload_n hx hb dX9_level_68 rfl (lv_at hl 0 rfl) ?_
        refine z_get C hP 0 rfl rfl in_X9 36 (by decide) q1920 rfl dX9_level_69 ?_
        refine lv_iload_n hx hb dX9_level_72 rfl (lv_at hl 1 rfl) ?_
        refine z_iald C hP 4 rfl (iN) rfl (by omega) (by decide) dX9_level_73 ?_
        rw [l9.1]
        exact z_iretG C hlk hr hQ ⟨eo1_1, lm1_2, la1_3, lv1_4, true⟩ (by rw [if_neg (by omega), if_pos (by omega), if_pos hsw_33, Int.toNat_natCast]) ⟨fun _ => hp_1.1, hp_1.2⟩ (hP.sub [0, 1, 2, 3, 4] rfl) (hD.sub [0, 1, 2, 3, 4] (by decide) rfl) hS (Nat.le_of_ble_eq_true rfl) (Nat.le_of_ble_eq_true rfl) dX9_level_74
      · rw [hsw_33]
        refine lv_tableIn (off := 42) (tgt := 75) hx hb dX9_level_33 (by decide) (by decide) rfl (by decide) ?_
        refine lv_aload_n hx hb dX9_level_75 rfl (lv_at hl 0 rfl) ?_
        refine z_get C hP 0 rfl rfl in_X9 34 (by decide) q1918 rfl dX9_level_76 ?_
        refine z_sipush C dX9_level_79 rfl ?_
        refine lv_aload_n hx hb dX9_level_82 rfl (lv_at hl 0 rfl) ?_
        refine z_get C hP 0 rfl rfl in_X9 36 (by decide) q1920 rfl dX9_level_83 ?_
        refine lv_iload_n hx hb dX9_level_86 rfl (lv_at hl 1 rfl) ?_
        refine z_iald C hP 4 rfl (iN) rfl (by omega) (by decide) dX9_level_87 ?_
        rw [l9.1]
        refine z_iadd C dX9_level_88 ?_
        refine z_iald C hP 3 rfl ((150 + Lat w le (rgOf ra rl) nw iN).toNat) (by omega) (by omega) (by decide) dX9_level_89 ?_
        exact z_iretG C hlk hr hQ ⟨eo1_1, lm1_2, la1_3, lv1_4, true⟩ (by rw [if_neg (by omega), if_pos (by omega), if_neg (by omega), if_pos hsw_33, Int.toNat_natCast, Kn_lm hp_1.1 (by omega)]) ⟨fun _ => hp_1.1, hp_1.2⟩ (hP.sub [0, 1, 2, 3, 4] rfl) (hD.sub [0, 1, 2, 3, 4] (by decide) rfl) hS (Nat.le_of_ble_eq_true rfl) (Nat.le_of_ble_eq_true rfl) dX9_level_90
      · rw [hsw_33]
        refine lv_tableIn (off := 58) (tgt := 91) hx hb dX9_level_33 (by decide) (by decide) rfl (by decide) ?_
        refine lv_aload_n hx hb dX9_level_91 rfl (lv_at hl 0 rfl) ?_
        refine lv_aload_n hx hb dX9_level_92 rfl (lv_at hl 0 rfl) ?_
        refine z_get C hP 0 rfl rfl in_X9 36 (by decide) q1920 rfl dX9_level_93 ?_
        refine lv_iload_n hx hb dX9_level_96 rfl (lv_at hl 1 rfl) ?_
        refine z_iald C hP 4 rfl (iN) rfl (by omega) (by decide) dX9_level_97 ?_
        rw [l9.1]
        refine z_cV (n := 1) (As := [.int (zI (Lat w le (rgOf ra rl) nw iN))]) (rest := []) C hP (k_X9_leastOf l D dA (a) (v0) (v1) (v2) (v3) (v4) (v5) (v6) (v7) (v8) (v9) (v10) (v11) (v12) (v13) (v14) (v15) (v16) (v22) (v23) (v24) (v25) (v26) (.ref (qr)) (.int (zI ((es : Nat) : Int))) (.int (zI ((un : Nat) : Int))) (.ref (qh)) (.ref (qi)) (.int (zB (true))) (.ref (qm)) (.int (zI ((lv1_4 : Nat) : Int))) (v37) (v38) (v39) (v40) (v41) (v42) (v43) (v44) (w) (le) (ra) (rl) (qn) (qe) (qv) (eo1_1) ((Lat w le (rgOf ra rl) nw iN)) (fstS (fun s => decide (eM w le (rgOf ra rl) nw s = Lat w le (rgOf ra rl) nw iN)) (nst w le)) (by omega) (by rw [hp_1.1.1 _ fs9.1]; exact of_decide_eq_true fs9.2.1) (fun j hj => by rw [hp_1.1.1 j (by omega)]; exact of_decide_eq_false (fs9.2.2 j hj)) (by first | with_reducible assumption | omega | with_reducible rfl) hp_1.2) (lw_V q2224 q2226 qs92 q124 q2227) (by decide +kernel) rfl ⟨Nat.le_of_ble_eq_true rfl, Nat.le_of_ble_eq_true rfl⟩ hl.1 (hP.sub [0, 2] rfl) 0 rfl rfl rfl (Nat.le_of_ble_eq_true rfl) dX9_level_98 (Nat.zero_le _) (Nat.zero_le _) ?_
        exact z_iretG C hlk hr hQ ⟨eo1_1, lm1_2, la1_3, lv1_4, true⟩ (by rw [if_neg (by omega), if_pos (by omega), if_neg (by omega), if_neg (by omega), if_pos hsw_33, Int.toNat_natCast]) ⟨fun _ => hp_1.1, hp_1.2⟩ (hP.sub [0, 1, 2, 3, 4] rfl) (hD.sub [0, 1, 2, 3, 4] (by decide) rfl) hS (Nat.le_of_ble_eq_true rfl) (Nat.le_of_ble_eq_true rfl) dX9_level_101
      · rw [hsw_33]
        refine lv_tableIn (off := 69) (tgt := 102) hx hb dX9_level_33 (by decide) (by decide) rfl (by decide) ?_
        refine lv_aload_n hx hb dX9_level_102 rfl (lv_at hl 0 rfl) ?_
        refine lv_aload_n hx hb dX9_level_103 rfl (lv_at hl 0 rfl) ?_
        refine z_get C hP 0 rfl rfl in_X9 36 (by decide) q1920 rfl dX9_level_104 ?_
        refine lv_iload_n hx hb dX9_level_107 rfl (lv_at hl 1 rfl) ?_
        refine z_iald C hP 4 rfl (iN) rfl (by omega) (by decide) dX9_level_108 ?_
        rw [l9.1]
        refine z_iconst C dX9_level_109 ?_
        refine z_cV (n := 2) (As := [.int (zI (Lat w le (rgOf ra rl) nw iN)), .int (zI 1)]) (rest := []) C hP (k_X9_upsOf l D dA (a) (v0) (v1) (v2) (v3) (v4) (v5) (v6) (v7) (v8) (v9) (v10) (v11) (v12) (v13) (v14) (v15) (v16) (v22) (v23) (v24) (v25) (v26) (.ref (qr)) (.int (zI ((es : Nat) : Int))) (.int (zI ((un : Nat) : Int))) (.ref (qh)) (.ref (qi)) (.int (zB (true))) (.ref (qm)) (.int (zI ((lv1_4 : Nat) : Int))) (v37) (v38) (v39) (v40) (v41) (v42) (v43) (v44) (w) (le) (ra) (rl) (qn) (qe) (qv) (eo1_1) ((Lat w le (rgOf ra rl) nw iN)) (1) (by first | with_reducible assumption | omega | with_reducible rfl) (by first | with_reducible assumption | omega | with_reducible rfl) (by first | with_reducible assumption | omega | with_reducible rfl) hp_1.2) (lw_V q2228 q2230 qs93 q124 q2231) (by decide +kernel) rfl ⟨Nat.le_of_ble_eq_true rfl, Nat.le_of_ble_eq_true rfl⟩ hl.1 (hP.sub [0, 2] rfl) 0 rfl rfl rfl (Nat.le_of_ble_eq_true rfl) dX9_level_110 (Nat.zero_le _) (Nat.zero_le _) ?_
        exact z_iretG C hlk hr hQ ⟨eo1_1, lm1_2, la1_3, lv1_4, true⟩ (by rw [if_neg (by omega), if_pos (by omega), if_neg (by omega), if_neg (by omega), if_neg (by omega), if_pos hsw_33, Int.toNat_natCast, upN_congr (fun j hj => hp_1.1.1 j hj)]) ⟨fun _ => hp_1.1, hp_1.2⟩ (hP.sub [0, 1, 2, 3, 4] rfl) (hD.sub [0, 1, 2, 3, 4] (by decide) rfl) hS (Nat.le_of_ble_eq_true rfl) (Nat.le_of_ble_eq_true rfl) dX9_level_113
      · rw [hsw_33]
        refine lv_tableIn (off := 81) (tgt := 114) hx hb dX9_level_33 (by decide) (by decide) rfl (by decide) ?_
        refine lv_aload_n hx hb dX9_level_114 rfl (lv_at hl 0 rfl) ?_
        refine lv_aload_n hx hb dX9_level_115 rfl (lv_at hl 0 rfl) ?_
        refine z_get C hP 0 rfl rfl in_X9 36 (by decide) q1920 rfl dX9_level_116 ?_
        refine lv_iload_n hx hb dX9_level_119 rfl (lv_at hl 1 rfl) ?_
        refine z_iald C hP 4 rfl (iN) rfl (by omega) (by decide) dX9_level_120 ?_
        rw [l9.1]
        refine z_iconst C dX9_level_121 ?_
        refine z_cV (n := 2) (As := [.int (zI (Lat w le (rgOf ra rl) nw iN)), .int (zI (-1))]) (rest := []) C hP (k_X9_upsOf l D dA (a) (v0) (v1) (v2) (v3) (v4) (v5) (v6) (v7) (v8) (v9) (v10) (v11) (v12) (v13) (v14) (v15) (v16) (v22) (v23) (v24) (v25) (v26) (.ref (qr)) (.int (zI ((es : Nat) : Int))) (.int (zI ((un : Nat) : Int))) (.ref (qh)) (.ref (qi)) (.int (zB (true))) (.ref (qm)) (.int (zI ((lv1_4 : Nat) : Int))) (v37) (v38) (v39) (v40) (v41) (v42) (v43) (v44) (w) (le) (ra) (rl) (qn) (qe) (qv) (eo1_1) ((Lat w le (rgOf ra rl) nw iN)) ((-1)) (by first | with_reducible assumption | omega | with_reducible rfl) (by first | with_reducible assumption | omega | with_reducible rfl) (by first | with_reducible assumption | omega | with_reducible rfl) hp_1.2) (lw_V q2228 q2230 qs93 q124 q2231) (by decide +kernel) rfl ⟨Nat.le_of_ble_eq_true rfl, Nat.le_of_ble_eq_true rfl⟩ hl.1 (hP.sub [0, 2] rfl) 0 rfl rfl rfl (Nat.le_of_ble_eq_true rfl) dX9_level_122 (Nat.zero_le _) (Nat.zero_le _) ?_
        exact z_iretG C hlk hr hQ ⟨eo1_1, lm1_2, la1_3, lv1_4, true⟩ (by rw [if_neg (by omega), if_pos (by omega), if_neg (by omega), if_neg (by omega), if_neg (by omega), if_neg (by omega), if_pos hsw_33, Int.toNat_natCast, upN_congr (fun j hj => hp_1.1.1 j hj)]) ⟨fun _ => hp_1.1, hp_1.2⟩ (hP.sub [0, 1, 2, 3, 4] rfl) (hD.sub [0, 1, 2, 3, 4] (by decide) rfl) hS (Nat.le_of_ble_eq_true rfl) (Nat.le_of_ble_eq_true rfl) dX9_level_125
      · refine lv_tableOut (tgt := 126) hx hb dX9_level_33 (by rw [zI_toInt ⟨by omega, by omega⟩]; exact hsw_33) (by decide) ?_
        refine z_ldcw C (-100000) q2215 rfl dX9_level_126 ?_
        exact z_iretG C hlk hr hQ ⟨eo1_1, lm1_2, la1_3, lv1_4, true⟩ (by rw [if_neg (by omega), if_pos (by omega), if_neg (by omega), if_neg (by omega), if_neg (by omega), if_neg (by omega), if_neg (by omega)]) ⟨fun _ => hp_1.1, hp_1.2⟩ (hP.sub [0, 1, 2, 3, 4] rfl) (hD.sub [0, 1, 2, 3, 4] (by decide) rfl) hS (Nat.le_of_ble_eq_true rfl) (Nat.le_of_ble_eq_true rfl) dX9_level_129
    · have c_25 := of_decide_eq_false c_25
      refine z_ldcw C (-100000) q2215 rfl dX9_level_28 ?_
      exact z_iretG C hlk hr hQ ⟨eo1_1, lm1_2, la1_3, lv1_4, true⟩ (by rw [if_neg (by omega), if_neg (by omega)]) ⟨fun _ => hp_1.1, hp_1.2⟩ (hP.sub [0, 1, 2, 3, 4] rfl) (hD.sub [0, 1, 2, 3, 4] (by decide) rfl) hS (Nat.le_of_ble_eq_true rfl) (Nat.le_of_ble_eq_true rfl) dX9_level_31
  · refine lv_aload_n hx hb dX9_level_9 rfl (lv_at hl 0 rfl) ?_
    refine z_get C hP 0 rfl rfl in_X9 35 (by decide) q1919 rfl dX9_level_10 ?_
    exact z_iretG C hlk hr hQ ⟨eo1_1, lm1_2, la1_3, lv1_4, true⟩ (by rw [if_pos (by omega), lv9]) ⟨fun _ => hp_1.1, hp_1.2⟩ (hP.sub [0, 1, 2, 3, 4] rfl) (hD.sub [0, 1, 2, 3, 4] (by decide) rfl) hS (Nat.le_of_ble_eq_true rfl) (Nat.le_of_ble_eq_true rfl) dX9_level_13
