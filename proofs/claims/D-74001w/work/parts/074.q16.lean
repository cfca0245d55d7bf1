set_option maxHeartbeats 600000 in
set_option maxRecDepth 100000 in
theorem k_X9_down (l : Launch) (D : va_G) (dA : Nat → ClassId) (a : Nat) (v0 v1 v2 v3 v4 v5 v6 v7 v8 v9 v10 v11 v12 v13 v14 v15 v16 v22 v23 v24 v25 v26 v37 v38 v39 v40 v41 v42 v44 : Value) (w le lv es un qn qe qm qv qr qh qi qd : Nat) (ra rl kn : Bool) (nw eo lm la : Nat → Int) (df0 : Nat → Int) (x : Int) (hwl : w * le ≤ 16) (hle : le ≤ 16) (b3 : ∀ j, j < 48 → -3 ≤ nw j ∧ nw j ≤ 3) (bo : ∀ j, -1000000 ≤ nw j ∧ nw j ≤ 1000000) (be : ∀ j, -100000 ≤ eo j ∧ eo j ≤ 100000) (hkn : kn = true → KnP w le (rgOf ra rl) nw eo lm lv la) (h1 : zR x) (hdb : w * le ≤ 10 → dwB (eM w le (rgOf ra rl) nw) (w * le)) : zG (S := (Nat → Int) × (Nat → Int) × (Nat → Int) × Nat × Bool × (Nat → Int)) l yX9_down cX9_down 5 (some .long) (zRmW 4 96 0 0) D dA [.ref (a), .int (zI (x))] [(a, .inr (9, [v0, v1, v2, v3, v4, v5, v6, v7, v8, v9, v10, v11, v12, v13, v14, v15, v16, .int (zI ((w : Nat) : Int)), .int (zI ((le : Nat) : Int)), .int (zB (ra)), .int (zB (rl)), .ref (qn), v22, v23, v24, v25, v26, .ref (qr), .int (zI ((es : Nat) : Int)), .int (zI ((un : Nat) : Int)), .ref (qh), .ref (qi), .int (zB (kn)), .ref (qe), .ref (qm), .int (zI ((lv : Nat) : Int)), .ref (qv), v37, v38, v39, v40, v41, v42, .ref (qd), v44])), (qn, .inl (dA 3, 66, .inl (fun jz => zI (nw jz)))), (qe, .inl (dA 3, 65536, .inl (fun jz => zI (eo jz)))), (qm, .inl (dA 3, 301, .inl (fun jz => zI (lm jz)))), (qv, .inl (dA 3, 301, .inl (fun jz => zI (la jz)))), (qd, .inl (dA 4, 1024, .inr (.inl (fun jz => lI (df0 jz)))))] (fun u : (Nat → Int) × (Nat → Int) × (Nat → Int) × Nat × Bool × (Nat → Int) => some (.long (lI ((if lawMZ w le nw x = true ∧ w * le ≤ 10 then ((dw (eM w le (rgOf ra rl) nw) (w * le) x.toNat : Nat) : Int) else -100000))))) (fun u : (Nat → Int) × (Nat → Int) × (Nat → Int) × Nat × Bool × (Nat → Int) => (u.2.2.2.2.1 = true → KnP w le (rgOf ra rl) nw u.1 u.2.1 u.2.2.2.1 u.2.2.1) ∧ ∀ j, -100000 ≤ u.1 j ∧ u.1 j ≤ 100000) (fun u : (Nat → Int) × (Nat → Int) × (Nat → Int) × Nat × Bool × (Nat → Int) => [(a, .inr (9, [v0, v1, v2, v3, v4, v5, v6, v7, v8, v9, v10, v11, v12, v13, v14, v15, v16, .int (zI ((w : Nat) : Int)), .int (zI ((le : Nat) : Int)), .int (zB (ra)), .int (zB (rl)), .ref (qn), v22, v23, v24, v25, v26, .ref (qr), .int (zI ((es : Nat) : Int)), .int (zI ((un : Nat) : Int)), .ref (qh), .ref (qi), .int (zB (u.2.2.2.2.1)), .ref (qe), .ref (qm), .int (zI ((u.2.2.2.1 : Nat) : Int)), .ref (qv), v37, v38, v39, v40, v41, v42, .ref (qd), v44])), (qn, .inl (dA 3, 66, .inl (fun jz => zI (nw jz)))), (qe, .inl (dA 3, 65536, .inl (fun jz => zI (u.1 jz)))), (qm, .inl (dA 3, 301, .inl (fun jz => zI (u.2.1 jz)))), (qv, .inl (dA 3, 301, .inl (fun jz => zI (u.2.2.1 jz)))), (qd, .inl (dA 4, 1024, .inr (.inl (fun jz => lI (u.2.2.2.2.2 jz)))))]) := by
  refine zG.of (by decide +kernel) rfl ?_
  intro pp ee ss mm args below meth cd Q A C hr hlk hQ hA hin H locs hP hD hS ls hl
  have hx := C.1.1
  have hb := C.1.2.1
  have hl : lv_has ls 5 [(0, .ref (a)), (1, .int (zI (x)))] := hl
  have hns : nst w le ≤ 65536 := nst_le hwl
  refine lv_aload_n hx hb dX9_down_0 rfl (lv_at hl 0 rfl) ?_
  refine lv_iload_n hx hb dX9_down_1 rfl (lv_at hl 1 rfl) ?_
  refine z_cV (n := 1) (As := [.int (zI (x))]) (rest := []) C hP (k_X9_isLawful l D dA (a) (v0) (v1) (v2) (v3) (v4) (v5) (v6) (v7) (v8) (v9) (v10) (v11) (v12) (v13) (v14) (v15) (v16) (v22) (v23) (v24) (v25) (v26) (.ref (qr)) (.int (zI ((es : Nat) : Int))) (.int (zI ((un : Nat) : Int))) (.ref (qh)) (.ref (qi)) (.int (zB (kn))) (.ref (qe)) (.ref (qm)) (.int (zI ((lv : Nat) : Int))) (.ref (qv)) (v37) (v38) (v39) (v40) (v41) (v42) (.ref (qd)) (v44) (w) (le) (ra) (rl) (qn) (nw) ((x)) (by first | with_reducible assumption | omega | with_reducible rfl) (by first | with_reducible assumption | omega | with_reducible rfl) (by first | with_reducible assumption | omega | with_reducible rfl)) (lw_V q2175 q2177 qs86 q124 q2178) (by decide +kernel) rfl ⟨Nat.le_of_ble_eq_true rfl, Nat.le_of_ble_eq_true rfl⟩ hl.1 (hP.sub [0, 1] rfl) 0 rfl rfl rfl (Nat.le_of_ble_eq_true rfl) dX9_down_2 (Nat.zero_le _) (Nat.zero_le _) ?_
  refine z_if_eqB (tgt := 17) C dX9_down_5 (by decide) (fun c_5 => ?_) (fun c_5 => ?_)
  · refine z_ldc2 C (-100000) q2275 rfl dX9_down_17 ?_
    exact z_lretG C hlk hr hQ ⟨eo, lm, la, lv, kn, df0⟩ (by rw [if_neg]; intro q; first | (rw [c_5] at q; exact Bool.false_ne_true q.1) | (exact absurd q.2 (by omega))) ⟨hkn, be⟩ (hP.sub [0, 1, 2, 3, 4, 5] rfl) (hD.sub [0, 1, 2, 3, 4, 5] (by decide) rfl) hS (Nat.le_of_ble_eq_true rfl) (Nat.le_of_ble_eq_true rfl) dX9_down_20
  · refine lv_aload_n hx hb dX9_down_8 rfl (lv_at hl 0 rfl) ?_
    refine z_cV (n := 0) (As := []) (rest := []) C hP (k_X9_sites l D dA (a) (v0) (v1) (v2) (v3) (v4) (v5) (v6) (v7) (v8) (v9) (v10) (v11) (v12) (v13) (v14) (v15) (v16) (v22) (v23) (v24) (v25) (v26) (.ref (qr)) (.int (zI ((es : Nat) : Int))) (.int (zI ((un : Nat) : Int))) (.ref (qh)) (.ref (qi)) (.int (zB (kn))) (.ref (qe)) (.ref (qm)) (.int (zI ((lv : Nat) : Int))) (.ref (qv)) (v37) (v38) (v39) (v40) (v41) (v42) (.ref (qd)) (v44) (w) (le) (ra) (rl) (qn)) (lw_V q2112 q2114 qs80 q124 q2115) (by decide +kernel) rfl ⟨Nat.le_of_ble_eq_true rfl, Nat.le_of_ble_eq_true rfl⟩ hl.1 (hP.sub [0] rfl) 0 rfl rfl rfl (Nat.le_of_ble_eq_true rfl) dX9_down_9 (Nat.zero_le _) (Nat.zero_le _) ?_
    refine z_bipush C dX9_down_12 rfl ?_
    refine z_icmp_le (tgt := 21) C ⟨by omega, by omega⟩ ⟨by decide, by decide⟩ dX9_down_14 (by decide) (fun c_14 => ?_) (fun c_14 => ?_)
    · have hx9 := lawMZ_in c_5
      obtain ⟨xn, rfl⟩ : ∃ q : Nat, x = (q : Int) := ⟨x.toNat, by omega⟩
      rw [Int.toNat_natCast] at hx9
      have hx8 : xn < nst w le := by omega
      have hnp := nst_pow hx8
      have hns2 : nst w le ≤ 1024 := nst_le10 (by omega)
      have h00 := nst_ne hx8
      have hdb := hdb (by omega)
      refine lv_aload_n hx hb dX9_down_21 rfl (lv_at hl 0 rfl) ?_
      refine z_gV (n := 0) (As := []) (rest := []) (wc := [(a, .inr (9, [v0, v1, v2, v3, v4, v5, v6, v7, v8, v9, v10, v11, v12, v13, v14, v15, v16, .int (zI ((w : Nat) : Int)), .int (zI ((le : Nat) : Int)), .int (zB (ra)), .int (zB (rl)), .ref (qn), v22, v23, v24, v25, v26, .ref (qr), .int (zI ((es : Nat) : Int)), .int (zI ((un : Nat) : Int)), .ref (qh), .ref (qi), .int (zB (kn)), .ref (qe), .ref (qm), .int (zI ((lv : Nat) : Int)), .ref (qv), v37, v38, v39, v40, v41, v42, .ref (qd), v44])), (qn, .inl (dA 3, 66, .inl (fun jz => zI (nw jz)))), (qe, .inl (dA 3, 65536, .inl (fun jz => zI (eo jz)))), (qm, .inl (dA 3, 301, .inl (fun jz => zI (lm jz)))), (qv, .inl (dA 3, 301, .inl (fun jz => zI (la jz))))]) (wr := [(qd, .inl (dA 4, 1024, .inr (.inl (fun jz => lI (df0 jz)))))]) C hP hD hS hA [0, 1, 2, 3, 4] [5] rfl rfl (by decide) (by decide) (by decide) (k_X9_knows l D dA (a) (v0) (v1) (v2) (v3) (v4) (v5) (v6) (v7) (v8) (v9) (v10) (v11) (v12) (v13) (v14) (v15) (v16) (v22) (v23) (v24) (v25) (v26) (v37) (v38) (v39) (v40) (v41) (v42) (.ref (qd)) (v44) (w) (le) (lv) (es) (un) (qn) (qe) (qm) (qv) (qr) (qh) (qi) (ra) (rl) (kn) (nw) (eo) (lm) (la) (by first | with_reducible assumption | omega | with_reducible rfl) (by first | with_reducible assumption | omega | with_reducible rfl) (by first | with_reducible assumption | omega | with_reducible rfl) (by first | with_reducible assumption | omega | with_reducible rfl) (by first | with_reducible assumption | omega | with_reducible rfl) (by first | with_reducible assumption | omega | with_reducible rfl)) (lw_V q2167 q2169 qs84 q124 q2170) (by decide +kernel) rfl ⟨Nat.le_of_ble_eq_true rfl, Nat.le_of_ble_eq_true rfl⟩ hl.1 0 rfl rfl rfl (Nat.le_of_ble_eq_true rfl) dX9_down_22 (by decide) (by decide) (fun u_22 H locs hp_22 hP hD hS _ => ?_)
      obtain ⟨eo1_1, lm1_2, la1_3, lv1_4⟩ := u_22
      have hP := hP.sub (ws' := [(a, .inr (9, [v0, v1, v2, v3, v4, v5, v6, v7, v8, v9, v10, v11, v12, v13, v14, v15, v16, .int (zI ((w : Nat) : Int)), .int (zI ((le : Nat) : Int)), .int (zB (ra)), .int (zB (rl)), .ref (qn), v22, v23, v24, v25, v26, .ref (qr), .int (zI ((es : Nat) : Int)), .int (zI ((un : Nat) : Int)), .ref (qh), .ref (qi), .int (zB (true)), .ref (qe), .ref (qm), .int (zI ((lv1_4 : Nat) : Int)), .ref (qv), v37, v38, v39, v40, v41, v42, .ref (qd), v44])), (qn, .inl (dA 3, 66, .inl (fun jz => zI (nw jz)))), (qe, .inl (dA 3, 65536, .inl (fun jz => zI (eo1_1 jz)))), (qm, .inl (dA 3, 301, .inl (fun jz => zI (lm1_2 jz)))), (qv, .inl (dA 3, 301, .inl (fun jz => zI (la1_3 jz)))), (qd, .inl (dA 4, 1024, .inr (.inl (fun jz => lI (df0 jz)))))]) [1, 2, 3, 4, 5, 0] rfl
      have hD := hD.sub (ws' := [(a, .inr (9, [v0, v1, v2, v3, v4, v5, v6, v7, v8, v9, v10, v11, v12, v13, v14, v15, v16, .int (zI ((w : Nat) : Int)), .int (zI ((le : Nat) : Int)), .int (zB (ra)), .int (zB (rl)), .ref (qn), v22, v23, v24, v25, v26, .ref (qr), .int (zI ((es : Nat) : Int)), .int (zI ((un : Nat) : Int)), .ref (qh), .ref (qi), .int (zB (true)), .ref (qe), .ref (qm), .int (zI ((lv1_4 : Nat) : Int)), .ref (qv), v37, v38, v39, v40, v41, v42, .ref (qd), v44])), (qn, .inl (dA 3, 66, .inl (fun jz => zI (nw jz)))), (qe, .inl (dA 3, 65536, .inl (fun jz => zI (eo1_1 jz)))), (qm, .inl (dA 3, 301, .inl (fun jz => zI (lm1_2 jz)))), (qv, .inl (dA 3, 301, .inl (fun jz => zI (la1_3 jz)))), (qd, .inl (dA 4, 1024, .inr (.inl (fun jz => lI (df0 jz)))))]) [1, 2, 3, 4, 5, 0] (by decide) rfl
      have hp_22 : KnP w le (rgOf ra rl) nw eo1_1 lm1_2 lv1_4 la1_3 ∧ ∀ j, -100000 ≤ eo1_1 j ∧ eo1_1 j ≤ 100000 := hp_22
      refine W.widen (k := 0) (n := 0) (Nat.le_of_ble_eq_true rfl) (Nat.le_of_ble_eq_true rfl) ?_
      have lv9 := Kn_lv hp_22.1
      have lv8 := Lmany_le w le (rgOf ra rl) nw
      refine z_iconst C dX9_down_25 ?_
      refine lv_istore_n (lv' := [(2, .int (zI 0)), (0, .ref (a)), (1, .int (zI ((xn : Nat) : Int)))]) hx hb dX9_down_26 rfl hl (by decide) rfl (fun ls hl => ?_)
      have L27 : ∀ (N : Nat) (i : Nat) (df : Nat → Int), (i ≤ Lmany w le (rgOf ra rl) nw) → (dnP w le (rgOf ra rl) nw df i 0) → (Lmany w le (rgOf ra rl) nw - i) < N → ∀ (H : Heap) (locs : List Loc), va_P D vwCl [(a, .inr (9, [v0, v1, v2, v3, v4, v5, v6, v7, v8, v9, v10, v11, v12, v13, v14, v15, v16, .int (zI ((w : Nat) : Int)), .int (zI ((le : Nat) : Int)), .int (zB (ra)), .int (zB (rl)), .ref (qn), v22, v23, v24, v25, v26, .ref (qr), .int (zI ((es : Nat) : Int)), .int (zI ((un : Nat) : Int)), .ref (qh), .ref (qi), .int (zB (true)), .ref (qe), .ref (qm), .int (zI ((lv1_4 : Nat) : Int)), .ref (qv), v37, v38, v39, v40, v41, v42, .ref (qd), v44])), (qn, .inl (dA 3, 66, .inl (fun jz => zI (nw jz)))), (qe, .inl (dA 3, 65536, .inl (fun jz => zI (eo1_1 jz)))), (qm, .inl (dA 3, 301, .inl (fun jz => zI (lm1_2 jz)))), (qv, .inl (dA 3, 301, .inl (fun jz => zI (la1_3 jz)))), (qd, .inl (dA 4, 1024, .inr (.inl (fun jz => lI (df jz)))))] H → va_D A [(a, .inr (9, [v0, v1, v2, v3, v4, v5, v6, v7, v8, v9, v10, v11, v12, v13, v14, v15, v16, .int (zI ((w : Nat) : Int)), .int (zI ((le : Nat) : Int)), .int (zB (ra)), .int (zB (rl)), .ref (qn), v22, v23, v24, v25, v26, .ref (qr), .int (zI ((es : Nat) : Int)), .int (zI ((un : Nat) : Int)), .ref (qh), .ref (qi), .int (zB (true)), .ref (qe), .ref (qm), .int (zI ((lv1_4 : Nat) : Int)), .ref (qv), v37, v38, v39, v40, v41, v42, .ref (qd), v44])), (qn, .inl (dA 3, 66, .inl (fun jz => zI (nw jz)))), (qe, .inl (dA 3, 65536, .inl (fun jz => zI (eo1_1 jz)))), (qm, .inl (dA 3, 301, .inl (fun jz => zI (lm1_2 jz)))), (qv, .inl (dA 3, 301, .inl (fun jz => zI (la1_3 jz)))), (qd, .inl (dA 4, 1024, .inr (.inl (fun jz => lI (df jz)))))] → va_S A ss.heap H locs → ∀ ls : Array Slot, lv_has ls 5 [(0, .ref (a)), (1, .int (zI ((xn : Nat) : Int))), (2, .int (zI ((i : Nat) : Int)))] → W pp l ee (zRmW 4 96 0 0) ss mm args below meth cd H locs 0 0 Q (F0 mm 27 ls []) := by
        intro N
        induction N with
        | zero => intro i df _ _ hm; exact absurd hm (Nat.not_lt_zero _)
        | succ N ih27 =>
          intro i df hi hP9 hmz27 H locs hP hD hS ls hl
          refine lv_iload_n hx hb dX9_down_27 rfl (lv_at hl 2 rfl) ?_
          refine lv_aload_n hx hb dX9_down_28 rfl (lv_at hl 0 rfl) ?_
          refine z_get C hP 0 rfl rfl in_X9 35 (by decide) q1919 rfl dX9_down_29 ?_
          refine z_icmp_ge (tgt := 158) C ⟨by omega, by omega⟩ ⟨by omega, by omega⟩ dX9_down_32 (by decide) (fun c_32 => ?_) (fun c_32 => ?_)
          · have hf9 := hP9 xn hx8 hx9.2 (Or.inl (Nat.lt_of_lt_of_le (lev_lm (rg := rgOf ra rl) hwl b3 hx8 hx9.2) (by omega)))
            refine lv_aload_n hx hb dX9_down_158 rfl (lv_at hl 0 rfl) ?_
            refine z_get C hP 0 rfl rfl in_X9 43 (by decide) q1927 rfl dX9_down_159 ?_
            refine lv_iload_n hx hb dX9_down_162 rfl (lv_at hl 1 rfl) ?_
            refine z_lald C hP 5 rfl (xn) rfl (by omega) (by decide) dX9_down_163 ?_
            exact z_lretG C hlk hr hQ ⟨eo1_1, lm1_2, la1_3, lv1_4, true, df⟩ (by rw [if_pos ⟨c_5, by omega⟩, Int.toNat_natCast, hf9]) ⟨fun _ => hp_22.1, hp_22.2⟩ (hP.sub [0, 1, 2, 3, 4, 5] rfl) (hD.sub [0, 1, 2, 3, 4, 5] (by decide) rfl) hS (Nat.le_of_ble_eq_true rfl) (Nat.le_of_ble_eq_true rfl) dX9_down_164
          · have hi2 : i < Lmany w le (rgOf ra rl) nw := by omega
            have l9 := Kn_la hp_22.1 hi2
            refine z_iconst C dX9_down_35 ?_
            refine lv_istore_n (lv' := [(3, .int (zI 0)), (0, .ref (a)), (1, .int (zI ((xn : Nat) : Int))), (2, .int (zI ((i : Nat) : Int)))]) hx hb dX9_down_36 rfl hl (by decide) rfl (fun ls hl => ?_)
            have L37 : ∀ (N : Nat) (j : Nat) (df : Nat → Int), (j ≤ nst w le) → (dnP w le (rgOf ra rl) nw df i j) → (nst w le - j) < N → ∀ (H : Heap) (locs : List Loc), va_P D vwCl [(a, .inr (9, [v0, v1, v2, v3, v4, v5, v6, v7, v8, v9, v10, v11, v12, v13, v14, v15, v16, .int (zI ((w : Nat) : Int)), .int (zI ((le : Nat) : Int)), .int (zB (ra)), .int (zB (rl)), .ref (qn), v22, v23, v24, v25, v26, .ref (qr), .int (zI ((es : Nat) : Int)), .int (zI ((un : Nat) : Int)), .ref (qh), .ref (qi), .int (zB (true)), .ref (qe), .ref (qm), .int (zI ((lv1_4 : Nat) : Int)), .ref (qv), v37, v38, v39, v40, v41, v42, .ref (qd), v44])), (qn, .inl (dA 3, 66, .inl (fun jz => zI (nw jz)))), (qe, .inl (dA 3, 65536, .inl (fun jz => zI (eo1_1 jz)))), (qm, .inl (dA 3, 301, .inl (fun jz => zI (lm1_2 jz)))), (qv, .inl (dA 3, 301, .inl (fun jz => zI (la1_3 jz)))), (qd, .inl (dA 4, 1024, .inr (.inl (fun jz => lI (df jz)))))] H → va_D A [(a, .inr (9, [v0, v1, v2, v3, v4, v5, v6, v7, v8, v9, v10, v11, v12, v13, v14, v15, v16, .int (zI ((w : Nat) : Int)), .int (zI ((le : Nat) : Int)), .int (zB (ra)), .int (zB (rl)), .ref (qn), v22, v23, v24, v25, v26, .ref (qr), .int (zI ((es : Nat) : Int)), .int (zI ((un : Nat) : Int)), .ref (qh), .ref (qi), .int (zB (true)), .ref (qe), .ref (qm), .int (zI ((lv1_4 : Nat) : Int)), .ref (qv), v37, v38, v39, v40, v41, v42, .ref (qd), v44])), (qn, .inl (dA 3, 66, .inl (fun jz => zI (nw jz)))), (qe, .inl (dA 3, 65536, .inl (fun jz => zI (eo1_1 jz)))), (qm, .inl (dA 3, 301, .inl (fun jz => zI (lm1_2 jz)))), (qv, .inl (dA 3, 301, .inl (fun jz => zI (la1_3 jz)))), (qd, .inl (dA 4, 1024, .inr (.inl (fun jz => lI (df jz)))))] → va_S A ss.heap H locs → ∀ ls : Array Slot, lv_has ls 5 [(0, .ref (a)), (1, .int (zI ((xn : Nat) : Int))), (2, .int (zI ((i : Nat) : Int))), (3, .int (zI ((j : Nat) : Int)))] → W pp l ee (zRmW 4 96 0 0) ss mm args below meth cd H locs 0 0 Q (F0 mm 37 ls []) := by
              intro N
              induction N with
              | zero => intro j df _ _ hm; exact absurd hm (Nat.not_lt_zero _)
              | succ N ih37 =>
                intro j df hj hP9 hmz37 H locs hP hD hS ls hl
                refine lv_iload_n hx hb dX9_down_37 rfl (lv_at hl 3 rfl) ?_
                refine lv_aload_n hx hb dX9_down_38 rfl (lv_at hl 0 rfl) ?_
                refine z_cV (n := 0) (As := []) (rest := [.int (zI ((j : Nat) : Int))]) C hP (k_X9_states l D dA (a) (v0) (v1) (v2) (v3) (v4) (v5) (v6) (v7) (v8) (v9) (v10) (v11) (v12) (v13) (v14) (v15) (v16) (v22) (v23) (v24) (v25) (v26) (.ref (qr)) (.int (zI ((es : Nat) : Int))) (.int (zI ((un : Nat) : Int))) (.ref (qh)) (.ref (qi)) (.int (zB (true))) (.ref (qe)) (.ref (qm)) (.int (zI ((lv1_4 : Nat) : Int))) (.ref (qv)) (v37) (v38) (v39) (v40) (v41) (v42) (.ref (qd)) (v44) (w) (le) (ra) (rl) (qn) (by first | with_reducible assumption | omega | with_reducible rfl)) (lw_V q2171 q2173 qs85 q124 q2174) (by decide +kernel) rfl ⟨Nat.le_of_ble_eq_true rfl, Nat.le_of_ble_eq_true rfl⟩ hl.1 (hP.sub [0] rfl) 0 rfl rfl rfl (Nat.le_of_ble_eq_true rfl) dX9_down_39 (Nat.zero_le _) (Nat.zero_le _) ?_
                refine z_icmp_ge (tgt := 152) C ⟨by omega, by omega⟩ ⟨by omega, by omega⟩ dX9_down_42 (by decide) (fun c_42 => ?_) (fun c_42 => ?_)
                · refine lv_iinc (v := zI ((i + 1 : Nat) : Int)) (lv' := [(2, .int (zI ((i + 1 : Nat) : Int))), (0, .ref (a)), (1, .int (zI ((xn : Nat) : Int))), (3, .int (zI ((j : Nat) : Int)))]) hx hb dX9_down_152 hl (k := 2) rfl (zI_inc (by omega)) (by decide) rfl (fun ls hl => ?_)
                  refine lv_goto (tgt := 27) hx hb dX9_down_155 (by decide) ?_
                  exact ih27 (i + 1) (df) (by first | with_reducible assumption | omega | with_reducible rfl) (dnP_next hP9 (by omega)) (by omega) H locs hP hD hS ls (lv_sub hl [1, 2, 0] rfl)
                · have q9 := hp_22.1.1 j (by omega)
                  have b9 := hp_22.2 j
                  refine lv_aload_n hx hb dX9_down_45 rfl (lv_at hl 0 rfl) ?_
                  refine z_get C hP 0 rfl rfl in_X9 33 (by decide) q1917 rfl dX9_down_46 ?_
                  refine lv_iload_n hx hb dX9_down_49 rfl (lv_at hl 3 rfl) ?_
                  refine z_iald C hP 2 rfl (j) rfl (by omega) (by decide) dX9_down_50 ?_
                  refine lv_aload_n hx hb dX9_down_51 rfl (lv_at hl 0 rfl) ?_
                  refine z_get C hP 0 rfl rfl in_X9 36 (by decide) q1920 rfl dX9_down_52 ?_
                  refine lv_iload_n hx hb dX9_down_55 rfl (lv_at hl 2 rfl) ?_
                  refine z_iald C hP 4 rfl (i) rfl (by omega) (by decide) dX9_down_56 ?_
                  rw [l9.1]
                  refine z_icmp_eq (tgt := 63) C ⟨by omega, by omega⟩ ⟨by omega, by omega⟩ dX9_down_57 (by decide) (fun c_57 => ?_) (fun c_57 => ?_)
                  · have rj : rk w le (rgOf ra rl) nw j = i := rk_i hi2 (by omega)
                    have lj : lawM w le nw j = true := eM_law (rg := rgOf ra rl) (by omega)
                    refine lv_aload_n hx hb dX9_down_63 rfl (lv_at hl 0 rfl) ?_
                    refine z_get C hP 0 rfl rfl in_X9 43 (by decide) q1927 rfl dX9_down_64 ?_
                    refine lv_iload_n hx hb dX9_down_67 rfl (lv_at hl 3 rfl) ?_
                    refine z_lconst0 C dX9_down_68 ?_
                    refine z_last C hP hD hS 5 rfl (j) rfl (by omega) (by decide) (v := 0) (ws' := [(a, .inr (9, [v0, v1, v2, v3, v4, v5, v6, v7, v8, v9, v10, v11, v12, v13, v14, v15, v16, .int (zI ((w : Nat) : Int)), .int (zI ((le : Nat) : Int)), .int (zB (ra)), .int (zB (rl)), .ref (qn), v22, v23, v24, v25, v26, .ref (qr), .int (zI ((es : Nat) : Int)), .int (zI ((un : Nat) : Int)), .ref (qh), .ref (qi), .int (zB (true)), .ref (qe), .ref (qm), .int (zI ((lv1_4 : Nat) : Int)), .ref (qv), v37, v38, v39, v40, v41, v42, .ref (qd), v44])), (qn, .inl (dA 3, 66, .inl (fun jz => zI (nw jz)))), (qe, .inl (dA 3, 65536, .inl (fun jz => zI (eo1_1 jz)))), (qm, .inl (dA 3, 301, .inl (fun jz => zI (lm1_2 jz)))), (qv, .inl (dA 3, 301, .inl (fun jz => zI (la1_3 jz)))), (qd, .inl (dA 4, 1024, .inr (.inl (fun jz => lI ((va_up df j 0) jz)))))]) rfl dX9_down_69 (fun H locs hP hD hS => ?_)
                    refine z_iconst C dX9_down_70 ?_
                    refine lv_istore (lv' := [(4, .int (zI 0)), (0, .ref (a)), (1, .int (zI ((xn : Nat) : Int))), (2, .int (zI ((i : Nat) : Int))), (3, .int (zI ((j : Nat) : Int)))]) hx hb dX9_down_71 hl (by decide) rfl (fun ls hl => ?_)
                    have L73 : ∀ (N : Nat) (kk : Nat) (dg : Nat → Int), (kk ≤ w * le) → (dnQ w le (rgOf ra rl) nw dg i j kk) → (w * le - kk) < N → ∀ (H : Heap) (locs : List Loc), va_P D vwCl [(a, .inr (9, [v0, v1, v2, v3, v4, v5, v6, v7, v8, v9, v10, v11, v12, v13, v14, v15, v16, .int (zI ((w : Nat) : Int)), .int (zI ((le : Nat) : Int)), .int (zB (ra)), .int (zB (rl)), .ref (qn), v22, v23, v24, v25, v26, .ref (qr), .int (zI ((es : Nat) : Int)), .int (zI ((un : Nat) : Int)), .ref (qh), .ref (qi), .int (zB (true)), .ref (qe), .ref (qm), .int (zI ((lv1_4 : Nat) : Int)), .ref (qv), v37, v38, v39, v40, v41, v42, .ref (qd), v44])), (qn, .inl (dA 3, 66, .inl (fun jz => zI (nw jz)))), (qe, .inl (dA 3, 65536, .inl (fun jz => zI (eo1_1 jz)))), (qm, .inl (dA 3, 301, .inl (fun jz => zI (lm1_2 jz)))), (qv, .inl (dA 3, 301, .inl (fun jz => zI (la1_3 jz)))), (qd, .inl (dA 4, 1024, .inr (.inl (fun jz => lI (dg jz)))))] H → va_D A [(a, .inr (9, [v0, v1, v2, v3, v4, v5, v6, v7, v8, v9, v10, v11, v12, v13, v14, v15, v16, .int (zI ((w : Nat) : Int)), .int (zI ((le : Nat) : Int)), .int (zB (ra)), .int (zB (rl)), .ref (qn), v22, v23, v24, v25, v26, .ref (qr), .int (zI ((es : Nat) : Int)), .int (zI ((un : Nat) : Int)), .ref (qh), .ref (qi), .int (zB (true)), .ref (qe), .ref (qm), .int (zI ((lv1_4 : Nat) : Int)), .ref (qv), v37, v38, v39, v40, v41, v42, .ref (qd), v44])), (qn, .inl (dA 3, 66, .inl (fun jz => zI (nw jz)))), (qe, .inl (dA 3, 65536, .inl (fun jz => zI (eo1_1 jz)))), (qm, .inl (dA 3, 301, .inl (fun jz => zI (lm1_2 jz)))), (qv, .inl (dA 3, 301, .inl (fun jz => zI (la1_3 jz)))), (qd, .inl (dA 4, 1024, .inr (.inl (fun jz => lI (dg jz)))))] → va_S A ss.heap H locs → ∀ ls : Array Slot, lv_has ls 5 [(0, .ref (a)), (1, .int (zI ((xn : Nat) : Int))), (2, .int (zI ((i : Nat) : Int))), (3, .int (zI ((j : Nat) : Int))), (4, .int (zI ((kk : Nat) : Int)))] → W pp l ee (zRmW 4 96 0 0) ss mm args below meth cd H locs 0 0 Q (F0 mm 73 ls []) := by
                      intro N
                      induction N with
                      | zero => intro kk dg _ _ hm; exact absurd hm (Nat.not_lt_zero _)
                      | succ N ih73 =>
                        intro kk dg hk hQ9 hmz73 H locs hP hD hS ls hl
                        refine lv_iload hx hb dX9_down_73 (lv_at hl 4 rfl) ?_
                        refine lv_aload_n hx hb dX9_down_75 rfl (lv_at hl 0 rfl) ?_
                        refine z_cV (n := 0) (As := []) (rest := [.int (zI ((kk : Nat) : Int))]) C hP (k_X9_sites l D dA (a) (v0) (v1) (v2) (v3) (v4) (v5) (v6) (v7) (v8) (v9) (v10) (v11) (v12) (v13) (v14) (v15) (v16) (v22) (v23) (v24) (v25) (v26) (.ref (qr)) (.int (zI ((es : Nat) : Int))) (.int (zI ((un : Nat) : Int))) (.ref (qh)) (.ref (qi)) (.int (zB (true))) (.ref (qe)) (.ref (qm)) (.int (zI ((lv1_4 : Nat) : Int))) (.ref (qv)) (v37) (v38) (v39) (v40) (v41) (v42) (.ref (qd)) (v44) (w) (le) (ra) (rl) (qn)) (lw_V q2112 q2114 qs80 q124 q2115) (by decide +kernel) rfl ⟨Nat.le_of_ble_eq_true rfl, Nat.le_of_ble_eq_true rfl⟩ hl.1 (hP.sub [0] rfl) 0 rfl rfl rfl (Nat.le_of_ble_eq_true rfl) dX9_down_76 (Nat.zero_le _) (Nat.zero_le _) ?_
                        refine z_icmp_ge (tgt := 128) C ⟨by omega, by omega⟩ ⟨by omega, by omega⟩ dX9_down_79 (by decide) (fun c_79 => ?_) (fun c_79 => ?_)
                        · have ds9 := hdb j (by omega) (by omega)
                          have dg9 := hQ9.1
                          rw [show kk = w * le by omega] at dg9
                          refine lv_aload_n hx hb dX9_down_128 rfl (lv_at hl 0 rfl) ?_
                          refine z_get C hP 0 rfl rfl in_X9 43 (by decide) q1927 rfl dX9_down_129 ?_
                          refine lv_iload_n hx hb dX9_down_132 rfl (lv_at hl 3 rfl) ?_
                          refine z_lald C hP 5 rfl (j) rfl (by omega) (by decide) dX9_down_133 ?_
                          refine z_lconst0 C dX9_down_134 ?_
                          refine z_lc_ne (tgt := 146) C ⟨by omega, by omega⟩ ⟨by decide, by decide⟩ dX9_down_135 dX9_down_136 (by decide) (fun c_135 => ?_) (fun c_135 => ?_)
                          · refine lv_iinc (v := zI ((j + 1 : Nat) : Int)) (lv' := [(3, .int (zI ((j + 1 : Nat) : Int))), (0, .ref (a)), (1, .int (zI ((xn : Nat) : Int))), (2, .int (zI ((i : Nat) : Int))), (4, .int (zI ((kk : Nat) : Int)))]) hx hb dX9_down_146 hl (k := 3) rfl (zI_inc (by omega)) (by decide) rfl (fun ls hl => ?_)
                            refine lv_goto (tgt := 37) hx hb dX9_down_149 (by decide) ?_
                            exact ih37 (j + 1) (dg) (by first | with_reducible assumption | omega | with_reducible rfl) (by first | exact dnP_skip hwl b3 hP9 hi2 (by omega) | exact dnQ_end hwl b3 hQ9 (by omega) lj c_135 | exact dnQ_end0 hwl b3 hQ9 (by omega) lj c_135) (by omega) H locs hP hD hS ls (lv_sub hl [1, 2, 3, 0] rfl)
                          · refine lv_aload_n hx hb dX9_down_139 rfl (lv_at hl 0 rfl) ?_
                            refine z_get C hP 0 rfl rfl in_X9 43 (by decide) q1927 rfl dX9_down_140 ?_
                            refine lv_iload_n hx hb dX9_down_143 rfl (lv_at hl 3 rfl) ?_
                            refine z_lconst1 C dX9_down_144 ?_
                            refine z_last C hP hD hS 5 rfl (j) rfl (by omega) (by decide) (v := 1) (ws' := [(a, .inr (9, [v0, v1, v2, v3, v4, v5, v6, v7, v8, v9, v10, v11, v12, v13, v14, v15, v16, .int (zI ((w : Nat) : Int)), .int (zI ((le : Nat) : Int)), .int (zB (ra)), .int (zB (rl)), .ref (qn), v22, v23, v24, v25, v26, .ref (qr), .int (zI ((es : Nat) : Int)), .int (zI ((un : Nat) : Int)), .ref (qh), .ref (qi), .int (zB (true)), .ref (qe), .ref (qm), .int (zI ((lv1_4 : Nat) : Int)), .ref (qv), v37, v38, v39, v40, v41, v42, .ref (qd), v44])), (qn, .inl (dA 3, 66, .inl (fun jz => zI (nw jz)))), (qe, .inl (dA 3, 65536, .inl (fun jz => zI (eo1_1 jz)))), (qm, .inl (dA 3, 301, .inl (fun jz => zI (lm1_2 jz)))), (qv, .inl (dA 3, 301, .inl (fun jz => zI (la1_3 jz)))), (qd, .inl (dA 4, 1024, .inr (.inl (fun jz => lI ((va_up dg j 1) jz)))))]) rfl dX9_down_145 (fun H locs hP hD hS => ?_)
                            refine lv_iinc (v := zI ((j + 1 : Nat) : Int)) (lv' := [(3, .int (zI ((j + 1 : Nat) : Int))), (0, .ref (a)), (1, .int (zI ((xn : Nat) : Int))), (2, .int (zI ((i : Nat) : Int))), (4, .int (zI ((kk : Nat) : Int)))]) hx hb dX9_down_146 hl (k := 3) rfl (zI_inc (by omega)) (by decide) rfl (fun ls hl => ?_)
                            refine lv_goto (tgt := 37) hx hb dX9_down_149 (by decide) ?_
                            exact ih37 (j + 1) ((va_up dg j 1)) (by first | with_reducible assumption | omega | with_reducible rfl) (by first | exact dnP_skip hwl b3 hP9 hi2 (by omega) | exact dnQ_end hwl b3 hQ9 (by omega) lj c_135 | exact dnQ_end0 hwl b3 hQ9 (by omega) lj c_135) (by omega) H locs hP hD hS ls (lv_sub hl [1, 2, 3, 0] rfl)
                        · have hx7 : j ^^^ 2 ^ kk < nst w le := by rw [hnp]; exact x_lt (by omega) (by omega)
                          have q8 := hp_22.1.1 (j ^^^ 2 ^ kk) hx7
                          have b8 := hp_22.2 (j ^^^ 2 ^ kk)
                          refine lv_aload_n hx hb dX9_down_82 rfl (lv_at hl 0 rfl) ?_
                          refine z_get C hP 0 rfl rfl in_X9 33 (by decide) q1917 rfl dX9_down_83 ?_
                          refine lv_iload_n hx hb dX9_down_86 rfl (lv_at hl 3 rfl) ?_
                          refine z_iconst C dX9_down_87 ?_
                          refine lv_iload hx hb dX9_down_88 (lv_at hl 4 rfl) ?_
                          refine z_ishl1 C (kk) rfl rfl (by omega) dX9_down_90 ?_
                          refine z_ixor C (j) ((2 ^ kk)) rfl rfl dX9_down_91 ?_
                          refine z_iald C hP 2 rfl ((j ^^^ (2 ^ kk))) rfl (by omega) (by decide) dX9_down_92 ?_
                          refine lv_aload_n hx hb dX9_down_93 rfl (lv_at hl 0 rfl) ?_
                          refine z_get C hP 0 rfl rfl in_X9 33 (by decide) q1917 rfl dX9_down_94 ?_
                          refine lv_iload_n hx hb dX9_down_97 rfl (lv_at hl 3 rfl) ?_
                          refine z_iald C hP 2 rfl (j) rfl (by omega) (by decide) dX9_down_98 ?_
                          refine z_icmp_ge (tgt := 122) C ⟨by omega, by omega⟩ ⟨by omega, by omega⟩ dX9_down_99 (by decide) (fun c_99 => ?_) (fun c_99 => ?_)
                          · refine lv_iinc (v := zI ((kk + 1 : Nat) : Int)) (lv' := [(4, .int (zI ((kk + 1 : Nat) : Int))), (0, .ref (a)), (1, .int (zI ((xn : Nat) : Int))), (2, .int (zI ((i : Nat) : Int))), (3, .int (zI ((j : Nat) : Int)))]) hx hb dX9_down_122 hl (k := 4) rfl (zI_inc (by omega)) (by decide) rfl (fun ls hl => ?_)
                            refine lv_goto (tgt := 73) hx hb dX9_down_125 (by decide) ?_
                            exact ih73 (kk + 1) (dg) (by first | with_reducible assumption | omega | with_reducible rfl) (by first | exact dnQ_f hQ9 (by omega) | exact dnQ_t hwl b3 hQ9 (by omega) (by omega) rj (by omega) hx7) (by omega) H locs hP hD hS ls (lv_sub hl [1, 2, 3, 4, 0] rfl)
                          · refine lv_aload_n hx hb dX9_down_102 rfl (lv_at hl 0 rfl) ?_
                            refine z_get C hP 0 rfl rfl in_X9 43 (by decide) q1927 rfl dX9_down_103 ?_
                            refine lv_iload_n hx hb dX9_down_106 rfl (lv_at hl 3 rfl) ?_
                            refine lv_dup2_11 hx hb dX9_down_107 rfl rfl ?_
                            refine z_lald C hP 5 rfl (j) rfl (by omega) (by decide) dX9_down_108 ?_
                            refine lv_aload_n hx hb dX9_down_109 rfl (lv_at hl 0 rfl) ?_
                            refine z_get C hP 0 rfl rfl in_X9 43 (by decide) q1927 rfl dX9_down_110 ?_
                            refine lv_iload_n hx hb dX9_down_113 rfl (lv_at hl 3 rfl) ?_
                            refine z_iconst C dX9_down_114 ?_
                            refine lv_iload hx hb dX9_down_115 (lv_at hl 4 rfl) ?_
                            refine z_ishl1 C (kk) rfl rfl (by omega) dX9_down_117 ?_
                            refine z_ixor C (j) ((2 ^ kk)) rfl rfl dX9_down_118 ?_
                            refine z_lald C hP 5 rfl ((j ^^^ (2 ^ kk))) rfl (by omega) (by decide) dX9_down_119 ?_
                            refine z_ladd C dX9_down_120 ?_
                            refine z_last C hP hD hS 5 rfl (j) rfl (by omega) (by decide) (v := ((dg j) + (dg (j ^^^ (2 ^ kk))))) (ws' := [(a, .inr (9, [v0, v1, v2, v3, v4, v5, v6, v7, v8, v9, v10, v11, v12, v13, v14, v15, v16, .int (zI ((w : Nat) : Int)), .int (zI ((le : Nat) : Int)), .int (zB (ra)), .int (zB (rl)), .ref (qn), v22, v23, v24, v25, v26, .ref (qr), .int (zI ((es : Nat) : Int)), .int (zI ((un : Nat) : Int)), .ref (qh), .ref (qi), .int (zB (true)), .ref (qe), .ref (qm), .int (zI ((lv1_4 : Nat) : Int)), .ref (qv), v37, v38, v39, v40, v41, v42, .ref (qd), v44])), (qn, .inl (dA 3, 66, .inl (fun jz => zI (nw jz)))), (qe, .inl (dA 3, 65536, .inl (fun jz => zI (eo1_1 jz)))), (qm, .inl (dA 3, 301, .inl (fun jz => zI (lm1_2 jz)))), (qv, .inl (dA 3, 301, .inl (fun jz => zI (la1_3 jz)))), (qd, .inl (dA 4, 1024, .inr (.inl (fun jz => lI ((va_up dg j ((dg j) + (dg (j ^^^ (2 ^ kk))))) jz)))))]) rfl dX9_down_121 (fun H locs hP hD hS => ?_)
                            refine lv_iinc (v := zI ((kk + 1 : Nat) : Int)) (lv' := [(4, .int (zI ((kk + 1 : Nat) : Int))), (0, .ref (a)), (1, .int (zI ((xn : Nat) : Int))), (2, .int (zI ((i : Nat) : Int))), (3, .int (zI ((j : Nat) : Int)))]) hx hb dX9_down_122 hl (k := 4) rfl (zI_inc (by omega)) (by decide) rfl (fun ls hl => ?_)
                            refine lv_goto (tgt := 73) hx hb dX9_down_125 (by decide) ?_
                            exact ih73 (kk + 1) ((va_up dg j ((dg j) + (dg (j ^^^ (2 ^ kk)))))) (by first | with_reducible assumption | omega | with_reducible rfl) (by first | exact dnQ_f hQ9 (by omega) | exact dnQ_t hwl b3 hQ9 (by omega) (by omega) rj (by omega) hx7) (by omega) H locs hP hD hS ls (lv_sub hl [1, 2, 3, 4, 0] rfl)
                    exact L73 ((w * le - 0) + 1) (0) ((va_up df j 0)) (by first | with_reducible assumption | omega | with_reducible rfl) (dnQ_0 hP9) (by omega) H locs hP hD hS ls (lv_sub hl [1, 2, 3, 4, 0] rfl)
                  · refine lv_goto (tgt := 146) hx hb dX9_down_60 (by decide) ?_
                    refine lv_iinc (v := zI ((j + 1 : Nat) : Int)) (lv' := [(3, .int (zI ((j + 1 : Nat) : Int))), (0, .ref (a)), (1, .int (zI ((xn : Nat) : Int))), (2, .int (zI ((i : Nat) : Int)))]) hx hb dX9_down_146 hl (k := 3) rfl (zI_inc (by omega)) (by decide) rfl (fun ls hl => ?_)
                    refine lv_goto (tgt := 37) hx hb dX9_down_149 (by decide) ?_
                    exact ih37 (j + 1) (df) (by first | with_reducible assumption | omega | with_reducible rfl) (by first | exact dnP_skip hwl b3 hP9 hi2 (by omega) | exact dnQ_end hwl b3 hQ9 (by omega) lj c_135 | exact dnQ_end0 hwl b3 hQ9 (by omega) lj c_135) (by omega) H locs hP hD hS ls (lv_sub hl [1, 2, 3, 0] rfl)
            exact L37 ((nst w le - 0) + 1) (0) (df) (by first | with_reducible assumption | omega | with_reducible rfl) hP9 (by omega) H locs hP hD hS ls (lv_sub hl [1, 2, 3, 0] rfl)
      exact L27 ((Lmany w le (rgOf ra rl) nw - 0) + 1) (0) (df0) (by first | with_reducible assumption | omega | with_reducible rfl) dnP_0 (by omega) H locs hP hD hS ls (lv_sub hl [1, 2, 0] rfl)
    · refine z_ldc2 C (-100000) q2275 rfl dX9_down_17 ?_
      exact z_lretG C hlk hr hQ ⟨eo, lm, la, lv, kn, df0⟩ (by rw [if_neg]; intro q; first | (rw [c_5] at q; exact Bool.false_ne_true q.1) | (exact absurd q.2 (by omega))) ⟨hkn, be⟩ (hP.sub [0, 1, 2, 3, 4, 5] rfl) (hD.sub [0, 1, 2, 3, 4, 5] (by decide) rfl) hS (Nat.le_of_ble_eq_true rfl) (Nat.le_of_ble_eq_true rfl) dX9_down_20
set_option maxHeartbeats 600000 in
set_option maxRecDepth 100000 in
theorem k_X9_laysMany (l : Launch) (D : va_G) (dA : Nat → ClassId) (a : Nat) (v0 v1 v2 v3 v4 v5 v6 v7 v8 v9 v10 v11 v12 v13 v14 v15 v16 v22 v23 v24 v25 v26 v27 v28 v29 v30 v31 v32 v33 v34 v35 v36 v37 v38 v39 v40 v41 v42 v43 v44 : Value) (w le qn : Nat) (ra rl : Bool) (qo qy : Nat) (f mf0 : Nat → Int) (hwl : w * le ≤ 16) (hle : le ≤ 16) (b3 : ∀ j, j < 48 → -3 ≤ f j ∧ f j ≤ 3) (bo : ∀ j, -1000000 ≤ f j ∧ f j ≤ 1000000) : zG (S := (Nat → Int)) l yX9_laysMany cX9_laysMany 4 (none) (zRmW 3 75 0 0) D dA [.ref (a), .ref (qo), .ref (qy)] [(a, .inr (9, [v0, v1, v2, v3, v4, v5, v6, v7, v8, v9, v10, v11, v12, v13, v14, v15, v16, .int (zI ((w : Nat) : Int)), .int (zI ((le : Nat) : Int)), .int (zB (ra)), .int (zB (rl)), .ref (qn), v22, v23, v24, v25, v26, v27, v28, v29, v30, v31, v32, v33, v34, v35, v36, v37, v38, v39, v40, v41, v42, v43, v44])), (qo, .inl (dA 3, 66, .inl (fun jz => zI (f jz)))), (qy, .inl (dA 3, 301, .inl (fun jz => zI (mf0 jz))))] (fun u : (Nat → Int) => none) (fun u : (Nat → Int) => ∀ e, e < 301 → u e = ((Lc w le (rgOf ra rl) f e : Nat) : Int)) (fun u : (Nat → Int) => [(a, .inr (9, [v0, v1, v2, v3, v4, v5, v6, v7, v8, v9, v10, v11, v12, v13, v14, v15, v16, .int (zI ((w : Nat) : Int)), .int (zI ((le : Nat) : Int)), .int (zB (ra)), .int (zB (rl)), .ref (qn), v22, v23, v24, v25, v26, v27, v28, v29, v30, v31, v32, v33, v34, v35, v36, v37, v38, v39, v40, v41, v42, v43, v44])), (qo, .inl (dA 3, 66, .inl (fun jz => zI (f jz)))), (qy, .inl (dA 3, 301, .inl (fun jz => zI (u jz))))]) := by
  refine zG.of (by decide +kernel) rfl ?_
  intro pp ee ss mm args below meth cd Q A C hr hlk hQ hA hin H locs hP hD hS ls hl
  have hx := C.1.1
  have hb := C.1.2.1
  have hl : lv_has ls 4 [(0, .ref (a)), (1, .ref (qo)), (2, .ref (qy))] := hl
  have hns : nst w le ≤ 65536 := nst_le hwl
  refine z_iconst C dX9_laysMany_0 ?_
  refine lv_istore_n (lv' := [(3, .int (zI 0)), (0, .ref (a)), (1, .ref (qo)), (2, .ref (qy))]) hx hb dX9_laysMany_1 rfl hl (by decide) rfl (fun ls hl => ?_)
  have L2 : ∀ (N : Nat) (i : Nat) (zf : Nat → Int), (i ≤ 301) → (∀ e, e < i → zf e = 0) → (301 - i) < N → ∀ (H : Heap) (locs : List Loc), va_P D vwCl [(a, .inr (9, [v0, v1, v2, v3, v4, v5, v6, v7, v8, v9, v10, v11, v12, v13, v14, v15, v16, .int (zI ((w : Nat) : Int)), .int (zI ((le : Nat) : Int)), .int (zB (ra)), .int (zB (rl)), .ref (qn), v22, v23, v24, v25, v26, v27, v28, v29, v30, v31, v32, v33, v34, v35, v36, v37, v38, v39, v40, v41, v42, v43, v44])), (qo, .inl (dA 3, 66, .inl (fun jz => zI (f jz)))), (qy, .inl (dA 3, 301, .inl (fun jz => zI (zf jz))))] H → va_D A [(a, .inr (9, [v0, v1, v2, v3, v4, v5, v6, v7, v8, v9, v10, v11, v12, v13, v14, v15, v16, .int (zI ((w : Nat) : Int)), .int (zI ((le : Nat) : Int)), .int (zB (ra)), .int (zB (rl)), .ref (qn), v22, v23, v24, v25, v26, v27, v28, v29, v30, v31, v32, v33, v34, v35, v36, v37, v38, v39, v40, v41, v42, v43, v44])), (qo, .inl (dA 3, 66, .inl (fun jz => zI (f jz)))), (qy, .inl (dA 3, 301, .inl (fun jz => zI (zf jz))))] → va_S A ss.heap H locs → ∀ ls : Array Slot, lv_has ls 4 [(0, .ref (a)), (1, .ref (qo)), (2, .ref (qy)), (3, .int (zI ((i : Nat) : Int)))] → W pp l ee (zRmW 3 75 0 0) ss mm args below meth cd H locs 0 0 Q (F0 mm 2 ls []) := by
    intro N
    induction N with
    | zero => intro i zf _ _ hm; exact absurd hm (Nat.not_lt_zero _)
    | succ N ih2 =>
      intro i zf hi hz hmz2 H locs hP hD hS ls hl
      refine lv_iload_n hx hb dX9_laysMany_2 rfl (lv_at hl 3 rfl) ?_
      refine z_sipush C dX9_laysMany_3 rfl ?_
      refine z_icmp_ge (tgt := 19) C ⟨by omega, by omega⟩ ⟨by decide, by decide⟩ dX9_laysMany_6 (by decide) (fun c_6 => ?_) (fun c_6 => ?_)
      · have hi301 : i = 301 := by omega
        refine z_iconst C dX9_laysMany_19 ?_
        refine lv_istore_n (lv' := [(3, .int (zI 0)), (0, .ref (a)), (1, .ref (qo)), (2, .ref (qy))]) hx hb dX9_laysMany_20 rfl hl (by decide) rfl (fun ls hl => ?_)
        have L21 : ∀ (N : Nat) (i : Nat) (mf : Nat → Int), (i ≤ nst w le) → (∀ e, e < 301 → mf e = ((cntN (fun s => decide (eM w le (rgOf ra rl) f s = (e : Int) - 150)) i : Nat) : Int)) → (nst w le - i) < N → ∀ (H : Heap) (locs : List Loc), va_P D vwCl [(a, .inr (9, [v0, v1, v2, v3, v4, v5, v6, v7, v8, v9, v10, v11, v12, v13, v14, v15, v16, .int (zI ((w : Nat) : Int)), .int (zI ((le : Nat) : Int)), .int (zB (ra)), .int (zB (rl)), .ref (qn), v22, v23, v24, v25, v26, v27, v28, v29, v30, v31, v32, v33, v34, v35, v36, v37, v38, v39, v40, v41, v42, v43, v44])), (qo, .inl (dA 3, 66, .inl (fun jz => zI (f jz)))), (qy, .inl (dA 3, 301, .inl (fun jz => zI (mf jz))))] H → va_D A [(a, .inr (9, [v0, v1, v2, v3, v4, v5, v6, v7, v8, v9, v10, v11, v12, v13, v14, v15, v16, .int (zI ((w : Nat) : Int)), .int (zI ((le : Nat) : Int)), .int (zB (ra)), .int (zB (rl)), .ref (qn), v22, v23, v24, v25, v26, v27, v28, v29, v30, v31, v32, v33, v34, v35, v36, v37, v38, v39, v40, v41, v42, v43, v44])), (qo, .inl (dA 3, 66, .inl (fun jz => zI (f jz)))), (qy, .inl (dA 3, 301, .inl (fun jz => zI (mf jz))))] → va_S A ss.heap H locs → ∀ ls : Array Slot, lv_has ls 4 [(0, .ref (a)), (1, .ref (qo)), (2, .ref (qy)), (3, .int (zI ((i : Nat) : Int)))] → W pp l ee (zRmW 3 75 0 0) ss mm args below meth cd H locs 0 0 Q (F0 mm 21 ls []) := by
          intro N
          induction N with
          | zero => intro i mf _ _ hm; exact absurd hm (Nat.not_lt_zero _)
          | succ N ih21 =>
            intro i mf hi hm hmz21 H locs hP hD hS ls hl
            refine lv_iload_n hx hb dX9_laysMany_21 rfl (lv_at hl 3 rfl) ?_
            refine lv_aload_n hx hb dX9_laysMany_22 rfl (lv_at hl 0 rfl) ?_
            refine z_cV (n := 0) (As := []) (rest := [.int (zI ((i : Nat) : Int))]) C hP (k_X9_states l D dA (a) (v0) (v1) (v2) (v3) (v4) (v5) (v6) (v7) (v8) (v9) (v10) (v11) (v12) (v13) (v14) (v15) (v16) (v22) (v23) (v24) (v25) (v26) (v27) (v28) (v29) (v30) (v31) (v32) (v33) (v34) (v35) (v36) (v37) (v38) (v39) (v40) (v41) (v42) (v43) (v44) (w) (le) (ra) (rl) (qn) (by first | with_reducible assumption | omega | with_reducible rfl)) (lw_V q2171 q2173 qs85 q124 q2174) (by decide +kernel) rfl ⟨Nat.le_of_ble_eq_true rfl, Nat.le_of_ble_eq_true rfl⟩ hl.1 (hP.sub [0] rfl) 0 rfl rfl rfl (Nat.le_of_ble_eq_true rfl) dX9_laysMany_23 (Nat.zero_le _) (Nat.zero_le _) ?_
            refine z_icmp_ge (tgt := 67) C ⟨by omega, by omega⟩ ⟨by omega, by omega⟩ dX9_laysMany_26 (by decide) (fun c_26 => ?_) (fun c_26 => ?_)
            · exact z_vretG C hlk hr hQ (mf) rfl (fun e he => by rw [hm e he, show i = nst w le by omega]; rfl) (hP.sub [0, 1, 2] rfl) (hD.sub [0, 1, 2] (by decide) rfl) hS (Nat.le_of_ble_eq_true rfl) (Nat.le_of_ble_eq_true rfl) dX9_laysMany_67
            · refine lv_aload_n hx hb dX9_laysMany_29 rfl (lv_at hl 1 rfl) ?_
              refine lv_iload_n hx hb dX9_laysMany_30 rfl (lv_at hl 3 rfl) ?_
              refine lv_aload_n hx hb dX9_laysMany_31 rfl (lv_at hl 0 rfl) ?_
              refine z_cV (n := 0) (As := []) (rest := [.int (zI ((i : Nat) : Int)), .ref (qo)]) C hP (k_X9_sites l D dA (a) (v0) (v1) (v2) (v3) (v4) (v5) (v6) (v7) (v8) (v9) (v10) (v11) (v12) (v13) (v14) (v15) (v16) (v22) (v23) (v24) (v25) (v26) (v27) (v28) (v29) (v30) (v31) (v32) (v33) (v34) (v35) (v36) (v37) (v38) (v39) (v40) (v41) (v42) (v43) (v44) (w) (le) (ra) (rl) (qn)) (lw_V q2112 q2114 qs80 q124 q2115) (by decide +kernel) rfl ⟨Nat.le_of_ble_eq_true rfl, Nat.le_of_ble_eq_true rfl⟩ hl.1 (hP.sub [0] rfl) 0 rfl rfl rfl (Nat.le_of_ble_eq_true rfl) dX9_laysMany_32 (Nat.zero_le _) (Nat.zero_le _) ?_
              refine z_cS (n := 3) (As := [.ref (qo), .int (zI ((i : Nat) : Int)), .int (zI ((w * le : Nat) : Int))]) (rest := []) C (k_X9_isLawfulBy l D dA (qo) (f) (i) (w * le) (by first | with_reducible assumption | omega | with_reducible rfl) (by first | with_reducible assumption | omega | with_reducible rfl) (by first | with_reducible assumption | omega | with_reducible rfl)) (lw_S q2179 q2180 q124 q2181) (by decide +kernel) rfl ⟨Nat.le_of_ble_eq_true rfl, Nat.le_of_ble_eq_true rfl⟩ hl.1 (hP.sub [1] rfl) rfl (Nat.le_of_ble_eq_true rfl) dX9_laysMany_35 (Nat.zero_le _) (Nat.zero_le _) ?_
              refine z_if_eqB (tgt := 61) C dX9_laysMany_38 (by decide) (fun c_38 => ?_) (fun c_38 => ?_)
              · have lw9 : lawM w le f i = false := by unfold lawM; rw [c_38]; simp
                refine lv_iinc (v := zI ((i + 1 : Nat) : Int)) (lv' := [(3, .int (zI ((i + 1 : Nat) : Int))), (0, .ref (a)), (1, .ref (qo)), (2, .ref (qy))]) hx hb dX9_laysMany_61 hl (k := 3) rfl (zI_inc (by omega)) (by decide) rfl (fun ls hl => ?_)
                refine lv_goto (tgt := 21) hx hb dX9_laysMany_64 (by decide) ?_
                exact ih21 (i + 1) (mf) (by first | with_reducible assumption | omega | with_reducible rfl) (by first | exact lm_out (eM_f lw9).symm (by omega) hm | exact lm_in (eM_t lw9).symm (by omega) hm) (by omega) H locs hP hD hS ls (lv_sub hl [1, 2, 3, 0] rfl)
              · have lw9 : lawM w le f i = true := by unfold lawM; rw [decide_eq_true (show i < nst w le by omega), c_38]; rfl
                have eb9 := enN_b (w := w) (le := le) (rg := rgOf ra rl) (rows := le) (s := i) b3 (w * le) hwl
                have hmi := hm (150 + enN w le (rgOf ra rl) le f i (w * le)).toNat (by omega)
                have hmc := cntN_le (fun s => decide (eM w le (rgOf ra rl) f s = (((150 + enN w le (rgOf ra rl) le f i (w * le)).toNat : Nat) : Int) - 150)) i
                refine lv_aload_n hx hb dX9_laysMany_41 rfl (lv_at hl 2 rfl) ?_
                refine z_sipush C dX9_laysMany_42 rfl ?_
                refine lv_aload_n hx hb dX9_laysMany_45 rfl (lv_at hl 0 rfl) ?_
                refine lv_aload_n hx hb dX9_laysMany_46 rfl (lv_at hl 1 rfl) ?_
                refine lv_iload_n hx hb dX9_laysMany_47 rfl (lv_at hl 3 rfl) ?_
                refine lv_aload_n hx hb dX9_laysMany_48 rfl (lv_at hl 0 rfl) ?_
                refine z_get C hP 0 rfl rfl in_X9 18 (by decide) q1902 rfl dX9_laysMany_49 ?_
                refine z_cV (n := 3) (As := [.ref (qo), .int (zI ((i : Nat) : Int)), .int (zI ((le : Nat) : Int))]) (rest := [.int (zI 150), .ref (qy)]) C hP (k_X9_energy l D dA (a) (v0) (v1) (v2) (v3) (v4) (v5) (v6) (v7) (v8) (v9) (v10) (v11) (v12) (v13) (v14) (v15) (v16) (v22) (v23) (v24) (v25) (v26) (v27) (v28) (v29) (v30) (v31) (v32) (v33) (v34) (v35) (v36) (v37) (v38) (v39) (v40) (v41) (v42) (v43) (v44) (w) (le) (ra) (rl) (qn) (qo) (f) (i) (le) (by first | with_reducible assumption | omega | with_reducible rfl) (by first | with_reducible assumption | omega | with_reducible rfl) (by first | with_reducible assumption | omega | with_reducible rfl) (by first | with_reducible assumption | omega | with_reducible rfl) (by first | with_reducible assumption | omega | with_reducible rfl)) (lw_V q2182 q2184 qs87 q124 q2185) (by decide +kernel) rfl ⟨Nat.le_of_ble_eq_true rfl, Nat.le_of_ble_eq_true rfl⟩ hl.1 (hP.sub [0, 1] rfl) 0 rfl rfl rfl (Nat.le_of_ble_eq_true rfl) dX9_laysMany_52 (Nat.zero_le _) (Nat.zero_le _) ?_
                refine z_iadd C dX9_laysMany_55 ?_
                refine lv_dup2_11 hx hb dX9_laysMany_56 rfl rfl ?_
                refine z_iald C hP 2 rfl ((150 + enN w le (rgOf ra rl) le f i (w * le)).toNat) (by omega) (by omega) (by decide) dX9_laysMany_57 ?_
                refine z_iconst C dX9_laysMany_58 ?_
                refine z_iadd C dX9_laysMany_59 ?_
                refine z_iast C hP hD hS 2 rfl ((150 + enN w le (rgOf ra rl) le f i (w * le)).toNat) (by omega) (by omega) (by decide) (v := ((mf ((150 + enN w le (rgOf ra rl) le f i (w * le)).toNat)) + 1)) (ws' := [(a, .inr (9, [v0, v1, v2, v3, v4, v5, v6, v7, v8, v9, v10, v11, v12, v13, v14, v15, v16, .int (zI ((w : Nat) : Int)), .int (zI ((le : Nat) : Int)), .int (zB (ra)), .int (zB (rl)), .ref (qn), v22, v23, v24, v25, v26, v27, v28, v29, v30, v31, v32, v33, v34, v35, v36, v37, v38, v39, v40, v41, v42, v43, v44])), (qo, .inl (dA 3, 66, .inl (fun jz => zI (f jz)))), (qy, .inl (dA 3, 301, .inl (fun jz => zI ((va_up mf ((150 + enN w le (rgOf ra rl) le f i (w * le)).toNat) ((mf ((150 + enN w le (rgOf ra rl) le f i (w * le)).toNat)) + 1)) jz))))]) rfl dX9_laysMany_60 (fun H locs hP hD hS => ?_)
                refine lv_iinc (v := zI ((i + 1 : Nat) : Int)) (lv' := [(3, .int (zI ((i + 1 : Nat) : Int))), (0, .ref (a)), (1, .ref (qo)), (2, .ref (qy))]) hx hb dX9_laysMany_61 hl (k := 3) rfl (zI_inc (by omega)) (by decide) rfl (fun ls hl => ?_)
                refine lv_goto (tgt := 21) hx hb dX9_laysMany_64 (by decide) ?_
                exact ih21 (i + 1) ((va_up mf ((150 + enN w le (rgOf ra rl) le f i (w * le)).toNat) ((mf ((150 + enN w le (rgOf ra rl) le f i (w * le)).toNat)) + 1))) (by first | with_reducible assumption | omega | with_reducible rfl) (by first | exact lm_out (eM_f lw9).symm (by omega) hm | exact lm_in (eM_t lw9).symm (by omega) hm) (by omega) H locs hP hD hS ls (lv_sub hl [1, 2, 3, 0] rfl)
        exact L21 ((nst w le - 0) + 1) (0) (zf) (by first | with_reducible assumption | omega | with_reducible rfl) (fun e h => by rw [hz e (by omega)]; rfl) (by omega) H locs hP hD hS ls (lv_sub hl [1, 2, 3, 0] rfl)
      · refine lv_aload_n hx hb dX9_laysMany_9 rfl (lv_at hl 2 rfl) ?_
        refine lv_iload_n hx hb dX9_laysMany_10 rfl (lv_at hl 3 rfl) ?_
        refine z_iconst C dX9_laysMany_11 ?_
        refine z_iast C hP hD hS 2 rfl (i) rfl (by omega) (by decide) (v := 0) (ws' := [(a, .inr (9, [v0, v1, v2, v3, v4, v5, v6, v7, v8, v9, v10, v11, v12, v13, v14, v15, v16, .int (zI ((w : Nat) : Int)), .int (zI ((le : Nat) : Int)), .int (zB (ra)), .int (zB (rl)), .ref (qn), v22, v23, v24, v25, v26, v27, v28, v29, v30, v31, v32, v33, v34, v35, v36, v37, v38, v39, v40, v41, v42, v43, v44])), (qo, .inl (dA 3, 66, .inl (fun jz => zI (f jz)))), (qy, .inl (dA 3, 301, .inl (fun jz => zI ((va_up zf i 0) jz))))]) rfl dX9_laysMany_12 (fun H locs hP hD hS => ?_)
        refine lv_iinc (v := zI ((i + 1 : Nat) : Int)) (lv' := [(3, .int (zI ((i + 1 : Nat) : Int))), (0, .ref (a)), (1, .ref (qo)), (2, .ref (qy))]) hx hb dX9_laysMany_13 hl (k := 3) rfl (zI_inc (by omega)) (by decide) rfl (fun ls hl => ?_)
        refine lv_goto (tgt := 2) hx hb dX9_laysMany_16 (by decide) ?_
        exact ih2 (i + 1) ((va_up zf i 0)) (by first | with_reducible assumption | omega | with_reducible rfl) (up_fill (g := fun _ => 0) rfl hz) (by omega) H locs hP hD hS ls (lv_sub hl [1, 2, 3, 0] rfl)
  exact L2 ((301 - 0) + 1) (0) (mf0) (by first | with_reducible assumption | omega | with_reducible rfl) (fun e h => absurd h (Nat.not_lt_zero _)) (by omega) H locs hP hD hS ls (lv_sub hl [1, 2, 3, 0] rfl)
