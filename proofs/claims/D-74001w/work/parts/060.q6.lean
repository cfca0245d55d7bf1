set_option maxHeartbeats 600000 in
set_option maxRecDepth 100000 in
theorem k_X9_mean (l : Launch) (D : va_G) (dA : Nat → ClassId) (a : Nat) (v0 v1 v2 v3 v4 v5 v6 v7 v8 v9 v10 v11 v12 v13 v14 v15 v16 v22 v23 v24 v25 v26 v37 v38 v39 v40 v41 v42 v43 v44 : Value) (w le lv es un qn qe qm qv qr qh qi : Nat) (ra rl kn : Bool) (nw eo lm la : Nat → Int) (i wh : Int) (hwl : w * le ≤ 16) (hle : le ≤ 16) (b3 : ∀ j, j < 48 → -3 ≤ nw j ∧ nw j ≤ 3) (bo : ∀ j, -1000000 ≤ nw j ∧ nw j ≤ 1000000) (be : ∀ j, -100000 ≤ eo j ∧ eo j ≤ 100000) (hkn : kn = true → KnP w le (rgOf ra rl) nw eo lm lv la) (h1 : zR i) (h2 : zR wh) : zG (S := (Nat → Int) × (Nat → Int) × (Nat → Int) × Nat × Bool) l yX9_mean cX9_mean 5 (some .int) (zRmW 4 96 0 0) D dA [.ref (a), .int (zI (i)), .int (zI (wh))] [(a, .inr (9, [v0, v1, v2, v3, v4, v5, v6, v7, v8, v9, v10, v11, v12, v13, v14, v15, v16, .int (zI ((w : Nat) : Int)), .int (zI ((le : Nat) : Int)), .int (zB (ra)), .int (zB (rl)), .ref (qn), v22, v23, v24, v25, v26, .ref (qr), .int (zI ((es : Nat) : Int)), .int (zI ((un : Nat) : Int)), .ref (qh), .ref (qi), .int (zB (kn)), .ref (qe), .ref (qm), .int (zI ((lv : Nat) : Int)), .ref (qv), v37, v38, v39, v40, v41, v42, v43, v44])), (qn, .inl (dA 3, 66, .inl (fun jz => zI (nw jz)))), (qe, .inl (dA 3, 65536, .inl (fun jz => zI (eo jz)))), (qm, .inl (dA 3, 301, .inl (fun jz => zI (lm jz)))), (qv, .inl (dA 3, 301, .inl (fun jz => zI (la jz))))] (fun u : (Nat → Int) × (Nat → Int) × (Nat → Int) × Nat × Bool => some (.int (zI (if (0 ≤ i ∧ i < ((Lmany w le (rgOf ra rl) nw : Nat) : Int)) ∧ (0 ≤ wh ∧ wh ≤ 1) then (if wh = 0 then Int.tdiv (smN (fun s => decide (eM w le (rgOf ra rl) nw s = Lat w le (rgOf ra rl) nw i.toNat)) (fun s => ((pop s : Nat) : Int)) (nst w le)) ((Nat.gcd (smN (fun s => decide (eM w le (rgOf ra rl) nw s = Lat w le (rgOf ra rl) nw i.toNat)) (fun s => ((pop s : Nat) : Int)) (nst w le)).natAbs (Lc w le (rgOf ra rl) nw (150 + Lat w le (rgOf ra rl) nw i.toNat).toNat) : Nat) : Int) else (((Lc w le (rgOf ra rl) nw (150 + Lat w le (rgOf ra rl) nw i.toNat).toNat) / Nat.gcd (smN (fun s => decide (eM w le (rgOf ra rl) nw s = Lat w le (rgOf ra rl) nw i.toNat)) (fun s => ((pop s : Nat) : Int)) (nst w le)).natAbs (Lc w le (rgOf ra rl) nw (150 + Lat w le (rgOf ra rl) nw i.toNat).toNat) : Nat) : Int)) else -100000)))) (fun u : (Nat → Int) × (Nat → Int) × (Nat → Int) × Nat × Bool => (u.2.2.2.2 = true → KnP w le (rgOf ra rl) nw u.1 u.2.1 u.2.2.2.1 u.2.2.1) ∧ ∀ j, -100000 ≤ u.1 j ∧ u.1 j ≤ 100000) (fun u : (Nat → Int) × (Nat → Int) × (Nat → Int) × Nat × Bool => [(a, .inr (9, [v0, v1, v2, v3, v4, v5, v6, v7, v8, v9, v10, v11, v12, v13, v14, v15, v16, .int (zI ((w : Nat) : Int)), .int (zI ((le : Nat) : Int)), .int (zB (ra)), .int (zB (rl)), .ref (qn), v22, v23, v24, v25, v26, .ref (qr), .int (zI ((es : Nat) : Int)), .int (zI ((un : Nat) : Int)), .ref (qh), .ref (qi), .int (zB (u.2.2.2.2)), .ref (qe), .ref (qm), .int (zI ((u.2.2.2.1 : Nat) : Int)), .ref (qv), v37, v38, v39, v40, v41, v42, v43, v44])), (qn, .inl (dA 3, 66, .inl (fun jz => zI (nw jz)))), (qe, .inl (dA 3, 65536, .inl (fun jz => zI (u.1 jz)))), (qm, .inl (dA 3, 301, .inl (fun jz => zI (u.2.1 jz)))), (qv, .inl (dA 3, 301, .inl (fun jz => zI (u.2.2.1 jz))))]) := by
  refine zG.of (by decide +kernel) rfl ?_
  intro pp ee ss mm args below meth cd Q A C hr hlk hQ hA hin H locs hP hD hS ls hl
  have hx := C.1.1
  have hb := C.1.2.1
  have hl : lv_has ls 5 [(0, .ref (a)), (1, .int (zI (i))), (2, .int (zI (wh)))] := hl
  have hns : nst w le ≤ 65536 := nst_le hwl
  refine lv_aload_n hx hb dX9_mean_0 rfl (lv_at hl 0 rfl) ?_
  refine z_gV (n := 0) (As := []) (rest := []) (wc := [(a, .inr (9, [v0, v1, v2, v3, v4, v5, v6, v7, v8, v9, v10, v11, v12, v13, v14, v15, v16, .int (zI ((w : Nat) : Int)), .int (zI ((le : Nat) : Int)), .int (zB (ra)), .int (zB (rl)), .ref (qn), v22, v23, v24, v25, v26, .ref (qr), .int (zI ((es : Nat) : Int)), .int (zI ((un : Nat) : Int)), .ref (qh), .ref (qi), .int (zB (kn)), .ref (qe), .ref (qm), .int (zI ((lv : Nat) : Int)), .ref (qv), v37, v38, v39, v40, v41, v42, v43, v44])), (qn, .inl (dA 3, 66, .inl (fun jz => zI (nw jz)))), (qe, .inl (dA 3, 65536, .inl (fun jz => zI (eo jz)))), (qm, .inl (dA 3, 301, .inl (fun jz => zI (lm jz)))), (qv, .inl (dA 3, 301, .inl (fun jz => zI (la jz))))]) (wr := []) C hP hD hS hA [0, 1, 2, 3, 4] [] rfl rfl (by decide) (by decide) (by decide) (k_X9_knows l D dA (a) (v0) (v1) (v2) (v3) (v4) (v5) (v6) (v7) (v8) (v9) (v10) (v11) (v12) (v13) (v14) (v15) (v16) (v22) (v23) (v24) (v25) (v26) (v37) (v38) (v39) (v40) (v41) (v42) (v43) (v44) (w) (le) (lv) (es) (un) (qn) (qe) (qm) (qv) (qr) (qh) (qi) (ra) (rl) (kn) (nw) (eo) (lm) (la) (by first | with_reducible assumption | omega | with_reducible rfl) (by first | with_reducible assumption | omega | with_reducible rfl) (by first | with_reducible assumption | omega | with_reducible rfl) (by first | with_reducible assumption | omega | with_reducible rfl) (by first | with_reducible assumption | omega | with_reducible rfl) (by first | with_reducible assumption | omega | with_reducible rfl)) (lw_V q2167 q2169 qs84 q124 q2170) (by decide +kernel) rfl ⟨Nat.le_of_ble_eq_true rfl, Nat.le_of_ble_eq_true rfl⟩ hl.1 0 rfl rfl rfl (Nat.le_of_ble_eq_true rfl) dX9_mean_1 (by decide) (by decide) (fun u_1 H locs hp_1 hP hD hS _ => ?_)
  obtain ⟨eo1_1, lm1_2, la1_3, lv1_4⟩ := u_1
  have hP := hP.sub (ws' := [(a, .inr (9, [v0, v1, v2, v3, v4, v5, v6, v7, v8, v9, v10, v11, v12, v13, v14, v15, v16, .int (zI ((w : Nat) : Int)), .int (zI ((le : Nat) : Int)), .int (zB (ra)), .int (zB (rl)), .ref (qn), v22, v23, v24, v25, v26, .ref (qr), .int (zI ((es : Nat) : Int)), .int (zI ((un : Nat) : Int)), .ref (qh), .ref (qi), .int (zB (true)), .ref (qe), .ref (qm), .int (zI ((lv1_4 : Nat) : Int)), .ref (qv), v37, v38, v39, v40, v41, v42, v43, v44])), (qn, .inl (dA 3, 66, .inl (fun jz => zI (nw jz)))), (qe, .inl (dA 3, 65536, .inl (fun jz => zI (eo1_1 jz)))), (qm, .inl (dA 3, 301, .inl (fun jz => zI (lm1_2 jz)))), (qv, .inl (dA 3, 301, .inl (fun jz => zI (la1_3 jz))))]) [0, 1, 2, 3, 4] rfl
  have hD := hD.sub (ws' := [(a, .inr (9, [v0, v1, v2, v3, v4, v5, v6, v7, v8, v9, v10, v11, v12, v13, v14, v15, v16, .int (zI ((w : Nat) : Int)), .int (zI ((le : Nat) : Int)), .int (zB (ra)), .int (zB (rl)), .ref (qn), v22, v23, v24, v25, v26, .ref (qr), .int (zI ((es : Nat) : Int)), .int (zI ((un : Nat) : Int)), .ref (qh), .ref (qi), .int (zB (true)), .ref (qe), .ref (qm), .int (zI ((lv1_4 : Nat) : Int)), .ref (qv), v37, v38, v39, v40, v41, v42, v43, v44])), (qn, .inl (dA 3, 66, .inl (fun jz => zI (nw jz)))), (qe, .inl (dA 3, 65536, .inl (fun jz => zI (eo1_1 jz)))), (qm, .inl (dA 3, 301, .inl (fun jz => zI (lm1_2 jz)))), (qv, .inl (dA 3, 301, .inl (fun jz => zI (la1_3 jz))))]) [0, 1, 2, 3, 4] (by decide) rfl
  have hp_1 : KnP w le (rgOf ra rl) nw eo1_1 lm1_2 lv1_4 la1_3 ∧ ∀ j, -100000 ≤ eo1_1 j ∧ eo1_1 j ≤ 100000 := hp_1
  refine W.widen (k := 0) (n := 0) (Nat.le_of_ble_eq_true rfl) (Nat.le_of_ble_eq_true rfl) ?_
  have lv9 := Kn_lv hp_1.1
  have lv8 := Lmany_le w le (rgOf ra rl) nw
  refine lv_iload_n hx hb dX9_mean_4 rfl (lv_at hl 1 rfl) ?_
  refine z_iconst C dX9_mean_5 ?_
  refine lv_aload_n hx hb dX9_mean_6 rfl (lv_at hl 0 rfl) ?_
  refine z_get C hP 0 rfl rfl in_X9 35 (by decide) q1919 rfl dX9_mean_7 ?_
  refine z_iconst C dX9_mean_10 ?_
  refine z_isub C dX9_mean_11 ?_
  refine z_cS (n := 3) (As := [.int (zI (i)), .int (zI 0), .int (zI (((lv1_4 : Nat) : Int) - 1))]) (rest := []) C (k_X9_in l D dA ((i)) (0) ((((lv1_4 : Nat) : Int) - 1)) (by first | with_reducible assumption | omega | with_reducible rfl) (by first | with_reducible assumption | omega | with_reducible rfl) (by first | with_reducible assumption | omega | with_reducible rfl)) (lw_S q2090 q2091 q124 q2092) (by decide +kernel) rfl ⟨Nat.le_of_ble_eq_true rfl, Nat.le_of_ble_eq_true rfl⟩ hl.1 (hP.sub [] rfl) rfl (Nat.le_of_ble_eq_true rfl) dX9_mean_12 (Nat.zero_le _) (Nat.zero_le _) ?_
  refine z_if_eqB (tgt := 27) C dX9_mean_15 (by decide) (fun c_15 => ?_) (fun c_15 => ?_)
  · have c_15 := of_decide_eq_false c_15
    refine z_ldcw C (-100000) q2215 rfl dX9_mean_27 ?_
    exact z_iretG C hlk hr hQ ⟨eo1_1, lm1_2, la1_3, lv1_4, true⟩ (by rw [if_neg]; intro q; omega) ⟨fun _ => hp_1.1, hp_1.2⟩ (hP.sub [0, 1, 2, 3, 4] rfl) (hD.sub [0, 1, 2, 3, 4] (by decide) rfl) hS (Nat.le_of_ble_eq_true rfl) (Nat.le_of_ble_eq_true rfl) dX9_mean_30
  · have c_15 := of_decide_eq_true c_15
    refine lv_iload_n hx hb dX9_mean_18 rfl (lv_at hl 2 rfl) ?_
    refine z_iconst C dX9_mean_19 ?_
    refine z_iconst C dX9_mean_20 ?_
    refine z_cS (n := 3) (As := [.int (zI (wh)), .int (zI 0), .int (zI 1)]) (rest := []) C (k_X9_in l D dA ((wh)) (0) (1) (by first | with_reducible assumption | omega | with_reducible rfl) (by first | with_reducible assumption | omega | with_reducible rfl) (by first | with_reducible assumption | omega | with_reducible rfl)) (lw_S q2090 q2091 q124 q2092) (by decide +kernel) rfl ⟨Nat.le_of_ble_eq_true rfl, Nat.le_of_ble_eq_true rfl⟩ hl.1 (hP.sub [] rfl) rfl (Nat.le_of_ble_eq_true rfl) dX9_mean_21 (Nat.zero_le _) (Nat.zero_le _) ?_
    refine z_if_neB (tgt := 31) C dX9_mean_24 (by decide) (fun c_24 => ?_) (fun c_24 => ?_)
    · have c_24 := of_decide_eq_true c_24
      obtain ⟨iN, rfl⟩ : ∃ q : Nat, i = (q : Int) := ⟨i.toNat, by omega⟩
      have l9 := Kn_la hp_1.1 (show iN < Lmany w le (rgOf ra rl) nw by omega)
      have lc9 := Lc_le w le (rgOf ra rl) nw (150 + Lat w le (rgOf ra rl) nw iN).toNat
      refine z_iconst C dX9_mean_31 ?_
      refine lv_istore_n (lv' := [(3, .int (zI 0)), (0, .ref (a)), (1, .int (zI ((iN : Nat) : Int))), (2, .int (zI (wh)))]) hx hb dX9_mean_32 rfl hl (by decide) rfl (fun ls hl => ?_)
      refine z_iconst C dX9_mean_33 ?_
      refine lv_istore (lv' := [(4, .int (zI 0)), (3, .int (zI 0)), (0, .ref (a)), (1, .int (zI ((iN : Nat) : Int))), (2, .int (zI (wh)))]) hx hb dX9_mean_34 hl (by decide) rfl (fun ls hl => ?_)
      have L36 : ∀ (N : Nat) (j : Nat) (sm : Int), (j ≤ nst w le) → (sm = smN (fun s => decide (eM w le (rgOf ra rl) nw s = Lat w le (rgOf ra rl) nw iN)) (fun s => ((pop s : Nat) : Int)) j) → (nst w le - j) < N → ∀ (H : Heap) (locs : List Loc), va_P D vwCl [(a, .inr (9, [v0, v1, v2, v3, v4, v5, v6, v7, v8, v9, v10, v11, v12, v13, v14, v15, v16, .int (zI ((w : Nat) : Int)), .int (zI ((le : Nat) : Int)), .int (zB (ra)), .int (zB (rl)), .ref (qn), v22, v23, v24, v25, v26, .ref (qr), .int (zI ((es : Nat) : Int)), .int (zI ((un : Nat) : Int)), .ref (qh), .ref (qi), .int (zB (true)), .ref (qe), .ref (qm), .int (zI ((lv1_4 : Nat) : Int)), .ref (qv), v37, v38, v39, v40, v41, v42, v43, v44])), (qn, .inl (dA 3, 66, .inl (fun jz => zI (nw jz)))), (qe, .inl (dA 3, 65536, .inl (fun jz => zI (eo1_1 jz)))), (qm, .inl (dA 3, 301, .inl (fun jz => zI (lm1_2 jz)))), (qv, .inl (dA 3, 301, .inl (fun jz => zI (la1_3 jz))))] H → va_D A [(a, .inr (9, [v0, v1, v2, v3, v4, v5, v6, v7, v8, v9, v10, v11, v12, v13, v14, v15, v16, .int (zI ((w : Nat) : Int)), .int (zI ((le : Nat) : Int)), .int (zB (ra)), .int (zB (rl)), .ref (qn), v22, v23, v24, v25, v26, .ref (qr), .int (zI ((es : Nat) : Int)), .int (zI ((un : Nat) : Int)), .ref (qh), .ref (qi), .int (zB (true)), .ref (qe), .ref (qm), .int (zI ((lv1_4 : Nat) : Int)), .ref (qv), v37, v38, v39, v40, v41, v42, v43, v44])), (qn, .inl (dA 3, 66, .inl (fun jz => zI (nw jz)))), (qe, .inl (dA 3, 65536, .inl (fun jz => zI (eo1_1 jz)))), (qm, .inl (dA 3, 301, .inl (fun jz => zI (lm1_2 jz)))), (qv, .inl (dA 3, 301, .inl (fun jz => zI (la1_3 jz))))] → va_S A ss.heap H locs → ∀ ls : Array Slot, lv_has ls 5 [(0, .ref (a)), (1, .int (zI ((iN : Nat) : Int))), (2, .int (zI (wh))), (3, .int (zI (sm))), (4, .int (zI ((j : Nat) : Int)))] → W pp l ee (zRmW 4 96 0 0) ss mm args below meth cd H locs 0 0 Q (F0 mm 36 ls []) := by
        intro N
        induction N with
        | zero => intro j sm _ _ hm; exact absurd hm (Nat.not_lt_zero _)
        | succ N ih36 =>
          intro j sm hj hs hmz36 H locs hP hD hS ls hl
          refine lv_iload hx hb dX9_mean_36 (lv_at hl 4 rfl) ?_
          refine lv_aload_n hx hb dX9_mean_38 rfl (lv_at hl 0 rfl) ?_
          refine z_cV (n := 0) (As := []) (rest := [.int (zI ((j : Nat) : Int))]) C hP (k_X9_states l D dA (a) (v0) (v1) (v2) (v3) (v4) (v5) (v6) (v7) (v8) (v9) (v10) (v11) (v12) (v13) (v14) (v15) (v16) (v22) (v23) (v24) (v25) (v26) (.ref (qr)) (.int (zI ((es : Nat) : Int))) (.int (zI ((un : Nat) : Int))) (.ref (qh)) (.ref (qi)) (.int (zB (true))) (.ref (qe)) (.ref (qm)) (.int (zI ((lv1_4 : Nat) : Int))) (.ref (qv)) (v37) (v38) (v39) (v40) (v41) (v42) (v43) (v44) (w) (le) (ra) (rl) (qn) (by first | with_reducible assumption | omega | with_reducible rfl)) (lw_V q2171 q2173 qs85 q124 q2174) (by decide +kernel) rfl ⟨Nat.le_of_ble_eq_true rfl, Nat.le_of_ble_eq_true rfl⟩ hl.1 (hP.sub [0] rfl) 0 rfl rfl rfl (Nat.le_of_ble_eq_true rfl) dX9_mean_39 (Nat.zero_le _) (Nat.zero_le _) ?_
          refine z_icmp_ge (tgt := 75) C ⟨by omega, by omega⟩ ⟨by omega, by omega⟩ dX9_mean_42 (by decide) (fun c_42 => ?_) (fun c_42 => ?_)
          · have hjn : nst w le = j := by omega
            have hp9 : ∀ s, -(32 : Int) ≤ ((pop s : Nat) : Int) ∧ ((pop s : Nat) : Int) ≤ 32 := fun s => by have : pop s ≤ 32 := pcf_le 32 s; omega
            have sb9 := smN_b (p := fun s => decide (eM w le (rgOf ra rl) nw s = Lat w le (rgOf ra rl) nw iN)) (by decide) hp9 j
            rw [← hs] at sb9
            refine lv_iload_n hx hb dX9_mean_75 rfl (lv_at hl 3 rfl) ?_
            refine lv_aload_n hx hb dX9_mean_76 rfl (lv_at hl 0 rfl) ?_
            refine z_get C hP 0 rfl rfl in_X9 34 (by decide) q1918 rfl dX9_mean_77 ?_
            refine z_sipush C dX9_mean_80 rfl ?_
            refine lv_aload_n hx hb dX9_mean_83 rfl (lv_at hl 0 rfl) ?_
            refine z_get C hP 0 rfl rfl in_X9 36 (by decide) q1920 rfl dX9_mean_84 ?_
            refine lv_iload_n hx hb dX9_mean_87 rfl (lv_at hl 1 rfl) ?_
            refine z_iald C hP 4 rfl (iN) rfl (by omega) (by decide) dX9_mean_88 ?_
            rw [l9.1]
            refine z_iadd C dX9_mean_89 ?_
            refine z_iald C hP 3 rfl ((150 + Lat w le (rgOf ra rl) nw iN).toNat) (by omega) (by omega) (by decide) dX9_mean_90 ?_
            rw [Kn_lm hp_1.1 (by omega)]
            refine lv_iload_n hx hb dX9_mean_91 rfl (lv_at hl 2 rfl) ?_
            refine z_cS (n := 3) (As := [.int (zI (sm)), .int (zI ((Lc w le (rgOf ra rl) nw (150 + Lat w le (rgOf ra rl) nw iN).toNat : Nat) : Int)), .int (zI (wh))]) (rest := []) C (k_X9_part l D dA ((sm)) (Lc w le (rgOf ra rl) nw (150 + Lat w le (rgOf ra rl) nw iN).toNat) ((wh)) (by first | with_reducible assumption | omega | with_reducible rfl) (by first | with_reducible assumption | omega | with_reducible rfl) (by first | with_reducible assumption | omega | with_reducible rfl)) (lw_S q2258 q2259 q124 q2260) (by decide +kernel) rfl ⟨Nat.le_of_ble_eq_true rfl, Nat.le_of_ble_eq_true rfl⟩ hl.1 (hP.sub [] rfl) rfl (Nat.le_of_ble_eq_true rfl) dX9_mean_92 (Nat.zero_le _) (Nat.zero_le _) ?_
            exact z_iretG C hlk hr hQ ⟨eo1_1, lm1_2, la1_3, lv1_4, true⟩ (by rw [if_pos (by omega), Int.toNat_natCast, hjn, ← hs]) ⟨fun _ => hp_1.1, hp_1.2⟩ (hP.sub [0, 1, 2, 3, 4] rfl) (hD.sub [0, 1, 2, 3, 4] (by decide) rfl) hS (Nat.le_of_ble_eq_true rfl) (Nat.le_of_ble_eq_true rfl) dX9_mean_95
          · have q9 := hp_1.1.1 j (by omega)
            have b9 := hp_1.2 j
            refine lv_aload_n hx hb dX9_mean_45 rfl (lv_at hl 0 rfl) ?_
            refine z_get C hP 0 rfl rfl in_X9 33 (by decide) q1917 rfl dX9_mean_46 ?_
            refine lv_iload hx hb dX9_mean_49 (lv_at hl 4 rfl) ?_
            refine z_iald C hP 2 rfl (j) rfl (by omega) (by decide) dX9_mean_51 ?_
            refine lv_aload_n hx hb dX9_mean_52 rfl (lv_at hl 0 rfl) ?_
            refine z_get C hP 0 rfl rfl in_X9 36 (by decide) q1920 rfl dX9_mean_53 ?_
            refine lv_iload_n hx hb dX9_mean_56 rfl (lv_at hl 1 rfl) ?_
            refine z_iald C hP 4 rfl (iN) rfl (by omega) (by decide) dX9_mean_57 ?_
            rw [l9.1]
            refine z_icmp_ne (tgt := 69) C ⟨by omega, by omega⟩ ⟨by omega, by omega⟩ dX9_mean_58 (by decide) (fun c_58 => ?_) (fun c_58 => ?_)
            · refine lv_iinc (v := zI ((j + 1 : Nat) : Int)) (lv' := [(4, .int (zI ((j + 1 : Nat) : Int))), (0, .ref (a)), (1, .int (zI ((iN : Nat) : Int))), (2, .int (zI (wh))), (3, .int (zI (sm)))]) hx hb dX9_mean_69 hl (k := 4) rfl (zI_inc (by omega)) (by decide) rfl (fun ls hl => ?_)
              refine lv_goto (tgt := 36) hx hb dX9_mean_72 (by decide) ?_
              exact ih36 (j + 1) ((sm)) (by first | with_reducible assumption | omega | with_reducible rfl) (by simp only [smN]; rw [← hs]; first | (rw [if_neg (fun q => absurd (of_decide_eq_true q) (by omega))]; done) | (rw [if_pos (decide_eq_true (by omega))]; done)) (by omega) H locs hP hD hS ls (lv_sub hl [1, 2, 3, 4, 0] rfl)
            · refine lv_iload_n hx hb dX9_mean_61 rfl (lv_at hl 3 rfl) ?_
              refine lv_iload hx hb dX9_mean_62 (lv_at hl 4 rfl) ?_
              refine z_cS (n := 1) (As := [.int (zI ((j : Nat) : Int))]) (rest := [.int (zI (sm))]) C (k_X9_bitsOf l D dA (j) (by first | with_reducible assumption | omega | with_reducible rfl)) (lw_S q2232 q2233 q124 q2234) (by decide +kernel) rfl ⟨Nat.le_of_ble_eq_true rfl, Nat.le_of_ble_eq_true rfl⟩ hl.1 (hP.sub [] rfl) rfl (Nat.le_of_ble_eq_true rfl) dX9_mean_64 (Nat.zero_le _) (Nat.zero_le _) ?_
              refine z_iadd C dX9_mean_67 ?_
              refine lv_istore_n (lv' := [(3, .int (zI ((sm) + ((pop j : Nat) : Int)))), (0, .ref (a)), (1, .int (zI ((iN : Nat) : Int))), (2, .int (zI (wh))), (4, .int (zI ((j : Nat) : Int)))]) hx hb dX9_mean_68 rfl hl (by decide) rfl (fun ls hl => ?_)
              refine lv_iinc (v := zI ((j + 1 : Nat) : Int)) (lv' := [(4, .int (zI ((j + 1 : Nat) : Int))), (3, .int (zI ((sm) + ((pop j : Nat) : Int)))), (0, .ref (a)), (1, .int (zI ((iN : Nat) : Int))), (2, .int (zI (wh)))]) hx hb dX9_mean_69 hl (k := 4) rfl (zI_inc (by omega)) (by decide) rfl (fun ls hl => ?_)
              refine lv_goto (tgt := 36) hx hb dX9_mean_72 (by decide) ?_
              exact ih36 (j + 1) (((sm) + ((pop j : Nat) : Int))) (by first | with_reducible assumption | omega | with_reducible rfl) (by simp only [smN]; rw [← hs]; first | (rw [if_neg (fun q => absurd (of_decide_eq_true q) (by omega))]; done) | (rw [if_pos (decide_eq_true (by omega))]; done)) (by omega) H locs hP hD hS ls (lv_sub hl [2, 3, 4, 1, 0] rfl)
      exact L36 ((nst w le - 0) + 1) (0) (0) (by first | with_reducible assumption | omega | with_reducible rfl) rfl (by omega) H locs hP hD hS ls (lv_sub hl [2, 3, 4, 1, 0] rfl)
    · have c_24 := of_decide_eq_false c_24
      refine z_ldcw C (-100000) q2215 rfl dX9_mean_27 ?_
      exact z_iretG C hlk hr hQ ⟨eo1_1, lm1_2, la1_3, lv1_4, true⟩ (by rw [if_neg]; intro q; omega) ⟨fun _ => hp_1.1, hp_1.2⟩ (hP.sub [0, 1, 2, 3, 4] rfl) (hD.sub [0, 1, 2, 3, 4] (by decide) rfl) hS (Nat.le_of_ble_eq_true rfl) (Nat.le_of_ble_eq_true rfl) dX9_mean_30
