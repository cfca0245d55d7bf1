set_option maxHeartbeats 600000 in
set_option maxRecDepth 100000 in
theorem k_X9_steepest (l : Launch) (D : va_G) (dA : Nat → ClassId) (a : Nat) (v0 v1 v2 v3 v4 v5 v6 v7 v8 v9 v10 v11 v12 v13 v14 v15 v16 v22 v23 v24 v25 v26 v27 v28 v29 v30 v31 v32 v34 v35 v37 v38 v39 v40 v41 v42 v43 v44 : Value) (w le : Nat) (ra rl : Bool) (qn qe qv : Nat) (eo : Nat → Int) (s0 : Nat) (hwl : w * le ≤ 16) (hs0 : s0 < 2 ^ 16) (be : ∀ j, -100000 ≤ eo j ∧ eo j ≤ 100000) : zM l yX9_steepest cX9_steepest 6 (some .int) (zRm 1 20) D dA [.ref (a), .int (zI ((s0 : Nat) : Int))] [(a, .inr (9, [v0, v1, v2, v3, v4, v5, v6, v7, v8, v9, v10, v11, v12, v13, v14, v15, v16, .int (zI ((w : Nat) : Int)), .int (zI ((le : Nat) : Int)), .int (zB (ra)), .int (zB (rl)), .ref (qn), v22, v23, v24, v25, v26, v27, v28, v29, v30, v31, v32, .ref (qe), v34, v35, .ref (qv), v37, v38, v39, v40, v41, v42, v43, v44])), (qe, .inl (dA 3, 65536, .inl (fun jz => zI (eo jz))))] (some (.int (zI ((stN eo s0 (w * le)).1)))) := by
  refine zM.of (by decide +kernel) rfl ?_
  intro pp ee ss mm args below meth cd Q C hr hlk hQ hP ls hl
  have hx := C.1.1
  have hb := C.1.2.1
  have hl : lv_has ls 6 [(0, .ref (a)), (1, .int (zI ((s0 : Nat) : Int)))] := hl
  have hxb : ∀ i, i < 16 → s0 ^^^ 2 ^ i < 2 ^ 16 := fun i h => Nat.xor_lt_two_pow hs0 (Nat.pow_lt_pow_right (by decide) h)
  refine z_iconst C dX9_steepest_0 ?_
  refine lv_istore_n (lv' := [(2, .int (zI (-1))), (0, .ref (a)), (1, .int (zI ((s0 : Nat) : Int)))]) hx hb dX9_steepest_1 rfl hl (by decide) rfl (fun ls hl => ?_)
  refine lv_aload_n hx hb dX9_steepest_2 rfl (lv_at hl 1 rfl) ?_
  refine z_get C hP 0 rfl rfl in_X9 33 (by decide) q1917 rfl dX9_steepest_3 ?_
  refine lv_iload_n hx hb dX9_steepest_6 rfl (lv_at hl 2 rfl) ?_
  refine z_iald C hP 1 rfl (s0) rfl (by omega) (by decide) dX9_steepest_7 ?_
  refine lv_istore_n (lv' := [(3, .int (zI (eo s0))), (2, .int (zI (-1))), (0, .ref (a)), (1, .int (zI ((s0 : Nat) : Int)))]) hx hb dX9_steepest_8 rfl hl (by decide) rfl (fun ls hl => ?_)
  refine z_iconst C dX9_steepest_9 ?_
  refine lv_istore (lv' := [(4, .int (zI 0)), (3, .int (zI (eo s0))), (2, .int (zI (-1))), (0, .ref (a)), (1, .int (zI ((s0 : Nat) : Int)))]) hx hb dX9_steepest_10 hl (by decide) rfl (fun ls hl => ?_)
  have L12 : ∀ (N : Nat) (i : Nat) (be_ lo : Int), (i ≤ w * le) → (stN eo s0 i = (be_, lo)) → (-100000 ≤ lo ∧ lo ≤ 100000) → (w * le - i) < N → ∀ ls : Array Slot, lv_has ls 6 [(0, .ref (a)), (1, .int (zI ((s0 : Nat) : Int))), (2, .int (zI (be_))), (3, .int (zI (lo))), (4, .int (zI ((i : Nat) : Int)))] → W pp l ee (zRm 1 20) ss mm args below meth cd ss.heap [] 0 0 Q (F0 mm 12 ls []) := by
    intro N
    induction N with
    | zero => intro i be_ lo _ _ _ hm; exact absurd hm (Nat.not_lt_zero _)
    | succ N ih12 =>
      intro i be_ lo hi hs hlo hmz12 ls hl
      refine lv_iload hx hb dX9_steepest_12 (lv_at hl 4 rfl) ?_
      refine lv_aload_n hx hb dX9_steepest_14 rfl (lv_at hl 0 rfl) ?_
      refine z_cV (n := 0) (As := []) (rest := [.int (zI ((i : Nat) : Int))]) C hP (k_X9_sites l D dA (a) (v0) (v1) (v2) (v3) (v4) (v5) (v6) (v7) (v8) (v9) (v10) (v11) (v12) (v13) (v14) (v15) (v16) (v22) (v23) (v24) (v25) (v26) (v27) (v28) (v29) (v30) (v31) (v32) (.ref (qe)) (v34) (v35) (.ref (qv)) (v37) (v38) (v39) (v40) (v41) (v42) (v43) (v44) (w) (le) (ra) (rl) (qn)) (lw_V q2112 q2114 qs80 q124 q2115) (by decide +kernel) rfl ⟨Nat.le_of_ble_eq_true rfl, Nat.le_of_ble_eq_true rfl⟩ hl.1 (hP.sub [0] rfl) 0 rfl rfl rfl (Nat.le_of_ble_eq_true rfl) dX9_steepest_15 (Nat.zero_le _) (Nat.zero_le _) ?_
      refine z_icmp_ge (tgt := 55) C ⟨by omega, by omega⟩ ⟨by omega, by omega⟩ dX9_steepest_18 (by decide) (fun c_18 => ?_) (fun c_18 => ?_)
      · refine lv_iload_n hx hb dX9_steepest_55 rfl (lv_at hl 2 rfl) ?_
        exact z_iret C hlk hr hQ (by rw [show w * le = i by omega, hs]) dX9_steepest_56
      · have hx9 := hxb i (by omega)
        have b9 := be (s0 ^^^ 2 ^ i)
        refine lv_aload_n hx hb dX9_steepest_21 rfl (lv_at hl 0 rfl) ?_
        refine z_get C hP 0 rfl rfl in_X9 33 (by decide) q1917 rfl dX9_steepest_22 ?_
        refine lv_iload_n hx hb dX9_steepest_25 rfl (lv_at hl 1 rfl) ?_
        refine z_iconst C dX9_steepest_26 ?_
        refine lv_iload hx hb dX9_steepest_27 (lv_at hl 4 rfl) ?_
        refine z_ishl1 C (i) rfl rfl (by omega) dX9_steepest_29 ?_
        refine z_ixor C (s0) ((2 ^ i)) rfl rfl dX9_steepest_30 ?_
        refine z_iald C hP 1 rfl ((s0 ^^^ (2 ^ i))) rfl (by omega) (by decide) dX9_steepest_31 ?_
        refine lv_istore (lv' := [(5, .int (zI (eo (s0 ^^^ (2 ^ i))))), (0, .ref (a)), (1, .int (zI ((s0 : Nat) : Int))), (2, .int (zI (be_))), (3, .int (zI (lo))), (4, .int (zI ((i : Nat) : Int)))]) hx hb dX9_steepest_32 hl (by decide) rfl (fun ls hl => ?_)
        refine lv_iload hx hb dX9_steepest_34 (lv_at hl 0 rfl) ?_
        refine lv_iload_n hx hb dX9_steepest_36 rfl (lv_at hl 4 rfl) ?_
        refine z_icmp_lt (tgt := 43) C ⟨by omega, by omega⟩ ⟨by omega, by omega⟩ dX9_steepest_37 (by decide) (fun c_37 => ?_) (fun c_37 => ?_)
        · refine lv_iload hx hb dX9_steepest_43 (lv_at hl 5 rfl) ?_
          refine lv_istore_n (lv' := [(2, .int (zI ((i : Nat) : Int))), (5, .int (zI (eo (s0 ^^^ (2 ^ i))))), (0, .ref (a)), (1, .int (zI ((s0 : Nat) : Int))), (3, .int (zI (lo))), (4, .int (zI ((i : Nat) : Int)))]) hx hb dX9_steepest_45 rfl hl (by decide) rfl (fun ls hl => ?_)
          refine lv_iload hx hb dX9_steepest_46 (lv_at hl 1 rfl) ?_
          refine lv_istore_n (lv' := [(3, .int (zI (eo (s0 ^^^ (2 ^ i))))), (2, .int (zI ((i : Nat) : Int))), (5, .int (zI (eo (s0 ^^^ (2 ^ i))))), (0, .ref (a)), (1, .int (zI ((s0 : Nat) : Int))), (4, .int (zI ((i : Nat) : Int)))]) hx hb dX9_steepest_48 rfl hl (by decide) rfl (fun ls hl => ?_)
          refine lv_iinc (v := zI ((i + 1 : Nat) : Int)) (lv' := [(4, .int (zI ((i + 1 : Nat) : Int))), (3, .int (zI (eo (s0 ^^^ (2 ^ i))))), (2, .int (zI ((i : Nat) : Int))), (5, .int (zI (eo (s0 ^^^ (2 ^ i))))), (0, .ref (a)), (1, .int (zI ((s0 : Nat) : Int)))]) hx hb dX9_steepest_49 hl (k := 5) rfl (zI_inc (by omega)) (by decide) rfl (fun ls hl => ?_)
          refine lv_goto (tgt := 12) hx hb dX9_steepest_52 (by decide) ?_
          exact ih12 (i + 1) (((i : Nat) : Int)) ((eo (s0 ^^^ (2 ^ i)))) (by first | with_reducible assumption | omega | with_reducible rfl) (by simp only [stN]; rw [hs]; dsimp only; first | (rw [if_neg (by omega)]; done) | (rw [if_pos (by omega)]; done)) (by first | exact hlo | exact be _) (by omega) ls (lv_sub hl [4, 5, 2, 1, 0] rfl)
        · refine lv_goto (tgt := 49) hx hb dX9_steepest_40 (by decide) ?_
          refine lv_iinc (v := zI ((i + 1 : Nat) : Int)) (lv' := [(4, .int (zI ((i + 1 : Nat) : Int))), (5, .int (zI (eo (s0 ^^^ (2 ^ i))))), (0, .ref (a)), (1, .int (zI ((s0 : Nat) : Int))), (2, .int (zI (be_))), (3, .int (zI (lo)))]) hx hb dX9_steepest_49 hl (k := 5) rfl (zI_inc (by omega)) (by decide) rfl (fun ls hl => ?_)
          refine lv_goto (tgt := 12) hx hb dX9_steepest_52 (by decide) ?_
          exact ih12 (i + 1) ((be_)) ((lo)) (by first | with_reducible assumption | omega | with_reducible rfl) (by simp only [stN]; rw [hs]; dsimp only; first | (rw [if_neg (by omega)]; done) | (rw [if_pos (by omega)]; done)) (by first | exact hlo | exact be _) (by omega) ls (lv_sub hl [2, 3, 4, 5, 0] rfl)
  exact L12 ((w * le - 0) + 1) (0) ((-1)) ((eo s0)) (by first | with_reducible assumption | omega | with_reducible rfl) rfl (be s0) (by omega) ls (lv_sub hl [3, 4, 2, 1, 0] rfl)
set_option maxHeartbeats 600000 in
set_option maxRecDepth 100000 in
theorem k_X9_fallEnd (l : Launch) (D : va_G) (dA : Nat → ClassId) (a : Nat) (v0 v1 v2 v3 v4 v5 v6 v7 v8 v9 v10 v11 v12 v13 v14 v15 v16 v22 v23 v24 v25 v26 v27 v28 v29 v30 v31 v32 v34 v35 v37 v38 v39 v40 v41 v42 v43 v44 : Value) (w le : Nat) (ra rl : Bool) (qn qe qv : Nat) (eo : Nat → Int) (s0 : Nat) (hwl : w * le ≤ 16) (hs0 : s0 < 2 ^ 16) (be : ∀ j, -100000 ≤ eo j ∧ eo j ≤ 100000) : zM l yX9_fallEnd cX9_fallEnd 4 (some .int) (zRm 2 45) D dA [.ref (a), .int (zI ((s0 : Nat) : Int))] [(a, .inr (9, [v0, v1, v2, v3, v4, v5, v6, v7, v8, v9, v10, v11, v12, v13, v14, v15, v16, .int (zI ((w : Nat) : Int)), .int (zI ((le : Nat) : Int)), .int (zB (ra)), .int (zB (rl)), .ref (qn), v22, v23, v24, v25, v26, v27, v28, v29, v30, v31, v32, .ref (qe), v34, v35, .ref (qv), v37, v38, v39, v40, v41, v42, v43, v44])), (qe, .inl (dA 3, 65536, .inl (fun jz => zI (eo jz))))] (some (.int (zI ((faE eo (w * le) 200001 s0 : Nat) : Int)))) := by
  refine zM.of (by decide +kernel) rfl ?_
  intro pp ee ss mm args below meth cd Q C hr hlk hQ hP ls hl
  have hx := C.1.1
  have hb := C.1.2.1
  have hl : lv_has ls 4 [(0, .ref (a)), (1, .int (zI ((s0 : Nat) : Int)))] := hl
  have hb0 := stN_b eo s0 (w * le)
  refine lv_iload_n hx hb dX9_fallEnd_0 rfl (lv_at hl 1 rfl) ?_
  refine lv_istore_n (lv' := [(2, .int (zI ((s0 : Nat) : Int))), (0, .ref (a)), (1, .int (zI ((s0 : Nat) : Int)))]) hx hb dX9_fallEnd_1 rfl hl (by decide) rfl (fun ls hl => ?_)
  refine lv_aload_n hx hb dX9_fallEnd_2 rfl (lv_at hl 1 rfl) ?_
  refine lv_iload_n hx hb dX9_fallEnd_3 rfl (lv_at hl 0 rfl) ?_
  refine z_cV (n := 1) (As := [.int (zI ((s0 : Nat) : Int))]) (rest := []) C hP (k_X9_steepest l D dA (a) (v0) (v1) (v2) (v3) (v4) (v5) (v6) (v7) (v8) (v9) (v10) (v11) (v12) (v13) (v14) (v15) (v16) (v22) (v23) (v24) (v25) (v26) (v27) (v28) (v29) (v30) (v31) (v32) (v34) (v35) (v37) (v38) (v39) (v40) (v41) (v42) (v43) (v44) (w) (le) (ra) (rl) (qn) (qe) (qv) (eo) (s0) (by first | with_reducible assumption | omega | with_reducible rfl) (by first | with_reducible assumption | omega | with_reducible rfl) (by first | with_reducible assumption | omega | with_reducible rfl)) (lw_V q2191 q2193 qs89 q124 q2194) (by decide +kernel) rfl ⟨Nat.le_of_ble_eq_true rfl, Nat.le_of_ble_eq_true rfl⟩ hl.1 (hP.sub [0, 1] rfl) 0 rfl rfl rfl (Nat.le_of_ble_eq_true rfl) dX9_fallEnd_4 (Nat.zero_le _) (Nat.zero_le _) ?_
  refine lv_istore_n (lv' := [(3, .int (zI ((stN eo s0 (w * le)).1))), (2, .int (zI ((s0 : Nat) : Int))), (0, .ref (a)), (1, .int (zI ((s0 : Nat) : Int)))]) hx hb dX9_fallEnd_7 rfl hl (by decide) rfl (fun ls hl => ?_)
  have L8 : ∀ (N : Nat) (f s1 : Nat) (sp : Int), (faE eo (w * le) 200001 s0 = faE eo (w * le) (f + 1) s1) → (s1 < 2 ^ 16) → (sp = (stN eo s1 (w * le)).1) → (eo s1 + 100000 ≤ f) → (f) < N → ∀ ls : Array Slot, lv_has ls 4 [(0, .ref (a)), (1, .int (zI ((s0 : Nat) : Int))), (2, .int (zI ((s1 : Nat) : Int))), (3, .int (zI (sp)))] → W pp l ee (zRm 2 45) ss mm args below meth cd ss.heap [] 0 0 Q (F0 mm 8 ls []) := by
    intro N
    induction N with
    | zero => intro f s1 sp _ _ _ _ hm; exact absurd hm (Nat.not_lt_zero _)
    | succ N ih8 =>
      intro f s1 sp hR h1 hsp hf hmz8 ls hl
      have hb8 := stN_b eo s1 (w * le)
      refine lv_iload_n hx hb dX9_fallEnd_8 rfl (lv_at hl 3 rfl) ?_
      refine z_if_lt (tgt := 27) C ⟨by omega, by omega⟩ dX9_fallEnd_9 (by decide) (fun c_9 => ?_) (fun c_9 => ?_)
      · refine lv_iload_n hx hb dX9_fallEnd_27 rfl (lv_at hl 2 rfl) ?_
        exact z_iret C hlk hr hQ (by rw [hR, faE, ← hsp, if_pos (by omega)]) dX9_fallEnd_28
      · have hb9 := stN_b eo s1 (w * le)
        have hl9 := stN_low eo s1 (w * le) (by omega)
        rw [← hsp] at hb9 hl9
        obtain ⟨spn, rfl⟩ : ∃ q : Nat, sp = (q : Int) := ⟨sp.toNat, by omega⟩
        rw [Int.toNat_natCast] at hl9
        have hx9 : s1 ^^^ 2 ^ spn < 2 ^ 16 := Nat.xor_lt_two_pow h1 (Nat.pow_lt_pow_right (by decide) (by omega))
        have b9 := be (s1 ^^^ 2 ^ spn)
        refine lv_iload_n hx hb dX9_fallEnd_12 rfl (lv_at hl 2 rfl) ?_
        refine z_iconst C dX9_fallEnd_13 ?_
        refine lv_iload_n hx hb dX9_fallEnd_14 rfl (lv_at hl 3 rfl) ?_
        refine z_ishl1 C (spn) rfl rfl (by omega) dX9_fallEnd_15 ?_
        refine z_ixor C (s1) ((2 ^ spn)) rfl rfl dX9_fallEnd_16 ?_
        refine lv_istore_n (lv' := [(2, .int (zI (((s1 ^^^ (2 ^ spn)) : Nat) : Int))), (0, .ref (a)), (1, .int (zI ((s0 : Nat) : Int))), (3, .int (zI ((spn : Nat) : Int)))]) hx hb dX9_fallEnd_17 rfl hl (by decide) rfl (fun ls hl => ?_)
        refine lv_aload_n hx hb dX9_fallEnd_18 rfl (lv_at hl 1 rfl) ?_
        refine lv_iload_n hx hb dX9_fallEnd_19 rfl (lv_at hl 0 rfl) ?_
        refine z_cV (n := 1) (As := [.int (zI (((s1 ^^^ (2 ^ spn)) : Nat) : Int))]) (rest := []) C hP (k_X9_steepest l D dA (a) (v0) (v1) (v2) (v3) (v4) (v5) (v6) (v7) (v8) (v9) (v10) (v11) (v12) (v13) (v14) (v15) (v16) (v22) (v23) (v24) (v25) (v26) (v27) (v28) (v29) (v30) (v31) (v32) (v34) (v35) (v37) (v38) (v39) (v40) (v41) (v42) (v43) (v44) (w) (le) (ra) (rl) (qn) (qe) (qv) (eo) ((s1 ^^^ (2 ^ spn))) (by first | with_reducible assumption | omega | with_reducible rfl) (by first | with_reducible assumption | omega | with_reducible rfl) (by first | with_reducible assumption | omega | with_reducible rfl)) (lw_V q2191 q2193 qs89 q124 q2194) (by decide +kernel) rfl ⟨Nat.le_of_ble_eq_true rfl, Nat.le_of_ble_eq_true rfl⟩ hl.1 (hP.sub [0, 1] rfl) 0 rfl rfl rfl (Nat.le_of_ble_eq_true rfl) dX9_fallEnd_20 (Nat.zero_le _) (Nat.zero_le _) ?_
        refine lv_istore_n (lv' := [(3, .int (zI ((stN eo ((s1 ^^^ (2 ^ spn))) (w * le)).1))), (2, .int (zI (((s1 ^^^ (2 ^ spn)) : Nat) : Int))), (0, .ref (a)), (1, .int (zI ((s0 : Nat) : Int)))]) hx hb dX9_fallEnd_23 rfl hl (by decide) rfl (fun ls hl => ?_)
        refine lv_goto (tgt := 8) hx hb dX9_fallEnd_24 (by decide) ?_
        exact ih8 (f - 1) ((s1 ^^^ (2 ^ spn))) (((stN eo ((s1 ^^^ (2 ^ spn))) (w * le)).1)) (by rw [hR, faE, ← hsp, if_neg (by omega), show f - 1 + 1 = f by omega]; rfl) (by first | with_reducible assumption | omega | with_reducible rfl) rfl (by omega) (by omega) ls (lv_sub hl [2, 3, 1, 0] rfl)
  exact L8 ((200000) + 1) (200000) (s0) (((stN eo s0 (w * le)).1)) rfl (by first | with_reducible assumption | omega | with_reducible rfl) rfl (by have := be s0; omega) (by omega) ls (lv_sub hl [2, 3, 1, 0] rfl)
set_option maxHeartbeats 600000 in
set_option maxRecDepth 100000 in
theorem k_X9_fallTurns (l : Launch) (D : va_G) (dA : Nat → ClassId) (a : Nat) (v0 v1 v2 v3 v4 v5 v6 v7 v8 v9 v10 v11 v12 v13 v14 v15 v16 v22 v23 v24 v25 v26 v27 v28 v29 v30 v31 v32 v34 v35 v37 v38 v39 v40 v41 v42 v43 v44 : Value) (w le : Nat) (ra rl : Bool) (qn qe qv : Nat) (eo : Nat → Int) (s0 : Nat) (hwl : w * le ≤ 16) (hs0 : s0 < 2 ^ 16) (be : ∀ j, -100000 ≤ eo j ∧ eo j ≤ 100000) : zM l yX9_fallTurns cX9_fallTurns 5 (some .int) (zRm 2 45) D dA [.ref (a), .int (zI ((s0 : Nat) : Int))] [(a, .inr (9, [v0, v1, v2, v3, v4, v5, v6, v7, v8, v9, v10, v11, v12, v13, v14, v15, v16, .int (zI ((w : Nat) : Int)), .int (zI ((le : Nat) : Int)), .int (zB (ra)), .int (zB (rl)), .ref (qn), v22, v23, v24, v25, v26, v27, v28, v29, v30, v31, v32, .ref (qe), v34, v35, .ref (qv), v37, v38, v39, v40, v41, v42, v43, v44])), (qe, .inl (dA 3, 65536, .inl (fun jz => zI (eo jz))))] (some (.int (zI ((faT eo (w * le) 200001 s0 : Nat) : Int)))) := by
  refine zM.of (by decide +kernel) rfl ?_
  intro pp ee ss mm args below meth cd Q C hr hlk hQ hP ls hl
  have hx := C.1.1
  have hb := C.1.2.1
  have hl : lv_has ls 5 [(0, .ref (a)), (1, .int (zI ((s0 : Nat) : Int)))] := hl
  have hb0 := stN_b eo s0 (w * le)
  refine lv_iload_n hx hb dX9_fallTurns_0 rfl (lv_at hl 1 rfl) ?_
  refine lv_istore_n (lv' := [(2, .int (zI ((s0 : Nat) : Int))), (0, .ref (a)), (1, .int (zI ((s0 : Nat) : Int)))]) hx hb dX9_fallTurns_1 rfl hl (by decide) rfl (fun ls hl => ?_)
  refine z_iconst C dX9_fallTurns_2 ?_
  refine lv_istore_n (lv' := [(3, .int (zI 0)), (2, .int (zI ((s0 : Nat) : Int))), (0, .ref (a)), (1, .int (zI ((s0 : Nat) : Int)))]) hx hb dX9_fallTurns_3 rfl hl (by decide) rfl (fun ls hl => ?_)
  refine lv_aload_n hx hb dX9_fallTurns_4 rfl (lv_at hl 2 rfl) ?_
  refine lv_iload_n hx hb dX9_fallTurns_5 rfl (lv_at hl 1 rfl) ?_
  refine z_cV (n := 1) (As := [.int (zI ((s0 : Nat) : Int))]) (rest := []) C hP (k_X9_steepest l D dA (a) (v0) (v1) (v2) (v3) (v4) (v5) (v6) (v7) (v8) (v9) (v10) (v11) (v12) (v13) (v14) (v15) (v16) (v22) (v23) (v24) (v25) (v26) (v27) (v28) (v29) (v30) (v31) (v32) (v34) (v35) (v37) (v38) (v39) (v40) (v41) (v42) (v43) (v44) (w) (le) (ra) (rl) (qn) (qe) (qv) (eo) (s0) (by first | with_reducible assumption | omega | with_reducible rfl) (by first | with_reducible assumption | omega | with_reducible rfl) (by first | with_reducible assumption | omega | with_reducible rfl)) (lw_V q2191 q2193 qs89 q124 q2194) (by decide +kernel) rfl ⟨Nat.le_of_ble_eq_true rfl, Nat.le_of_ble_eq_true rfl⟩ hl.1 (hP.sub [0, 1] rfl) 0 rfl rfl rfl (Nat.le_of_ble_eq_true rfl) dX9_fallTurns_6 (Nat.zero_le _) (Nat.zero_le _) ?_
  refine lv_istore (lv' := [(4, .int (zI ((stN eo s0 (w * le)).1))), (3, .int (zI 0)), (2, .int (zI ((s0 : Nat) : Int))), (0, .ref (a)), (1, .int (zI ((s0 : Nat) : Int)))]) hx hb dX9_fallTurns_9 hl (by decide) rfl (fun ls hl => ?_)
  have L11 : ∀ (N : Nat) (f s1 nn : Nat) (sp : Int), (faT eo (w * le) 200001 s0 = faT eo (w * le) (f + 1) s1 + nn) → (s1 < 2 ^ 16) → (sp = (stN eo s1 (w * le)).1) → (eo s1 + 100000 ≤ f) → (nn + f ≤ 200000) → (f) < N → ∀ ls : Array Slot, lv_has ls 5 [(0, .ref (a)), (1, .int (zI ((s0 : Nat) : Int))), (2, .int (zI ((s1 : Nat) : Int))), (3, .int (zI ((nn : Nat) : Int))), (4, .int (zI (sp)))] → W pp l ee (zRm 2 45) ss mm args below meth cd ss.heap [] 0 0 Q (F0 mm 11 ls []) := by
    intro N
    induction N with
    | zero => intro f s1 nn sp _ _ _ _ _ hm; exact absurd hm (Nat.not_lt_zero _)
    | succ N ih11 =>
      intro f s1 nn sp hR h1 hsp hf hnn hmz11 ls hl
      have hb8 := stN_b eo s1 (w * le)
      refine lv_iload hx hb dX9_fallTurns_11 (lv_at hl 4 rfl) ?_
      refine z_if_lt (tgt := 36) C ⟨by omega, by omega⟩ dX9_fallTurns_13 (by decide) (fun c_13 => ?_) (fun c_13 => ?_)
      · refine lv_iload_n hx hb dX9_fallTurns_36 rfl (lv_at hl 3 rfl) ?_
        exact z_iret C hlk hr hQ (by rw [hR, faT, ← hsp, if_pos (by omega)]; omega) dX9_fallTurns_37
      · have hb9 := stN_b eo s1 (w * le)
        have hl9 := stN_low eo s1 (w * le) (by omega)
        rw [← hsp] at hb9 hl9
        obtain ⟨spn, rfl⟩ : ∃ q : Nat, sp = (q : Int) := ⟨sp.toNat, by omega⟩
        rw [Int.toNat_natCast] at hl9
        have hx9 : s1 ^^^ 2 ^ spn < 2 ^ 16 := Nat.xor_lt_two_pow h1 (Nat.pow_lt_pow_right (by decide) (by omega))
        have b9 := be (s1 ^^^ 2 ^ spn)
        refine lv_iload_n hx hb dX9_fallTurns_16 rfl (lv_at hl 2 rfl) ?_
        refine z_iconst C dX9_fallTurns_17 ?_
        refine lv_iload hx hb dX9_fallTurns_18 (lv_at hl 4 rfl) ?_
        refine z_ishl1 C (spn) rfl rfl (by omega) dX9_fallTurns_20 ?_
        refine z_ixor C (s1) ((2 ^ spn)) rfl rfl dX9_fallTurns_21 ?_
        refine lv_istore_n (lv' := [(2, .int (zI (((s1 ^^^ (2 ^ spn)) : Nat) : Int))), (0, .ref (a)), (1, .int (zI ((s0 : Nat) : Int))), (3, .int (zI ((nn : Nat) : Int))), (4, .int (zI ((spn : Nat) : Int)))]) hx hb dX9_fallTurns_22 rfl hl (by decide) rfl (fun ls hl => ?_)
        refine lv_iinc (v := zI ((nn + 1 : Nat) : Int)) (lv' := [(3, .int (zI ((nn + 1 : Nat) : Int))), (2, .int (zI (((s1 ^^^ (2 ^ spn)) : Nat) : Int))), (0, .ref (a)), (1, .int (zI ((s0 : Nat) : Int))), (4, .int (zI ((spn : Nat) : Int)))]) hx hb dX9_fallTurns_23 hl (k := 3) rfl (zI_inc (by omega)) (by decide) rfl (fun ls hl => ?_)
        refine lv_aload_n hx hb dX9_fallTurns_26 rfl (lv_at hl 2 rfl) ?_
        refine lv_iload_n hx hb dX9_fallTurns_27 rfl (lv_at hl 1 rfl) ?_
        refine z_cV (n := 1) (As := [.int (zI (((s1 ^^^ (2 ^ spn)) : Nat) : Int))]) (rest := []) C hP (k_X9_steepest l D dA (a) (v0) (v1) (v2) (v3) (v4) (v5) (v6) (v7) (v8) (v9) (v10) (v11) (v12) (v13) (v14) (v15) (v16) (v22) (v23) (v24) (v25) (v26) (v27) (v28) (v29) (v30) (v31) (v32) (v34) (v35) (v37) (v38) (v39) (v40) (v41) (v42) (v43) (v44) (w) (le) (ra) (rl) (qn) (qe) (qv) (eo) ((s1 ^^^ (2 ^ spn))) (by first | with_reducible assumption | omega | with_reducible rfl) (by first | with_reducible assumption | omega | with_reducible rfl) (by first | with_reducible assumption | omega | with_reducible rfl)) (lw_V q2191 q2193 qs89 q124 q2194) (by decide +kernel) rfl ⟨Nat.le_of_ble_eq_true rfl, Nat.le_of_ble_eq_true rfl⟩ hl.1 (hP.sub [0, 1] rfl) 0 rfl rfl rfl (Nat.le_of_ble_eq_true rfl) dX9_fallTurns_28 (Nat.zero_le _) (Nat.zero_le _) ?_
        refine lv_istore (lv' := [(4, .int (zI ((stN eo ((s1 ^^^ (2 ^ spn))) (w * le)).1))), (3, .int (zI ((nn + 1 : Nat) : Int))), (2, .int (zI (((s1 ^^^ (2 ^ spn)) : Nat) : Int))), (0, .ref (a)), (1, .int (zI ((s0 : Nat) : Int)))]) hx hb dX9_fallTurns_31 hl (by decide) rfl (fun ls hl => ?_)
        refine lv_goto (tgt := 11) hx hb dX9_fallTurns_33 (by decide) ?_
        exact ih11 (f - 1) ((s1 ^^^ (2 ^ spn))) (nn + 1) (((stN eo ((s1 ^^^ (2 ^ spn))) (w * le)).1)) (by rw [hR, faT, ← hsp, if_neg (by omega), show f - 1 + 1 = f by omega, Int.toNat_natCast]; omega) (by first | with_reducible assumption | omega | with_reducible rfl) rfl (by omega) (by first | with_reducible assumption | omega | with_reducible rfl) (by omega) ls (lv_sub hl [3, 4, 2, 1, 0] rfl)
  exact L11 ((200000) + 1) (200000) (s0) (0) (((stN eo s0 (w * le)).1)) rfl (by first | with_reducible assumption | omega | with_reducible rfl) rfl (by have := be s0; omega) (by first | with_reducible assumption | omega | with_reducible rfl) (by omega) ls (lv_sub hl [3, 4, 2, 1, 0] rfl)
set_option maxHeartbeats 600000 in
set_option maxRecDepth 100000 in
theorem k_X9_levelOf (l : Launch) (D : va_G) (dA : Nat → ClassId) (a : Nat) (v0 v1 v2 v3 v4 v5 v6 v7 v8 v9 v10 v11 v12 v13 v14 v15 v16 v22 v23 v24 v25 v26 v27 v28 v29 v30 v31 v32 v34 v35 v37 v38 v39 v40 v41 v42 v43 v44 : Value) (w le : Nat) (ra rl : Bool) (qn qe qv : Nat) (eo la : Nat → Int) (s0 m0 : Nat) (hs0 : s0 < 2 ^ 16) (hm : m0 < 301) (hm1 : la m0 = eo s0) (hm2 : ∀ j, j < m0 → la j ≠ eo s0) (bl : ∀ j, j ≤ m0 → -100000 ≤ la j ∧ la j ≤ 100000) (be : ∀ j, -100000 ≤ eo j ∧ eo j ≤ 100000) : zM l yX9_levelOf cX9_levelOf 3 (some .int) (zRm 0 0) D dA [.ref (a), .int (zI ((s0 : Nat) : Int))] [(a, .inr (9, [v0, v1, v2, v3, v4, v5, v6, v7, v8, v9, v10, v11, v12, v13, v14, v15, v16, .int (zI ((w : Nat) : Int)), .int (zI ((le : Nat) : Int)), .int (zB (ra)), .int (zB (rl)), .ref (qn), v22, v23, v24, v25, v26, v27, v28, v29, v30, v31, v32, .ref (qe), v34, v35, .ref (qv), v37, v38, v39, v40, v41, v42, v43, v44])), (qe, .inl (dA 3, 65536, .inl (fun jz => zI (eo jz)))), (qv, .inl (dA 3, 301, .inl (fun jz => zI (la jz))))] (some (.int (zI ((m0 : Nat) : Int)))) := by
  refine zM.of (by decide +kernel) rfl ?_
  intro pp ee ss mm args below meth cd Q C hr hlk hQ hP ls hl
  have hx := C.1.1
  have hb := C.1.2.1
  have hl : lv_has ls 3 [(0, .ref (a)), (1, .int (zI ((s0 : Nat) : Int)))] := hl
  refine z_iconst C dX9_levelOf_0 ?_
  refine lv_istore_n (lv' := [(2, .int (zI 0)), (0, .ref (a)), (1, .int (zI ((s0 : Nat) : Int)))]) hx hb dX9_levelOf_1 rfl hl (by decide) rfl (fun ls hl => ?_)
  have L2 : ∀ (N : Nat) (i : Nat), (i ≤ m0) → (m0 - i) < N → ∀ ls : Array Slot, lv_has ls 3 [(0, .ref (a)), (1, .int (zI ((s0 : Nat) : Int))), (2, .int (zI ((i : Nat) : Int)))] → W pp l ee (zRm 0 0) ss mm args below meth cd ss.heap [] 0 0 Q (F0 mm 2 ls []) := by
    intro N
    induction N with
    | zero => intro i _ hm; exact absurd hm (Nat.not_lt_zero _)
    | succ N ih2 =>
      intro i hi hmz2 ls hl
      have b8 := bl i hi
      have b9 := be s0
      refine lv_aload_n hx hb dX9_levelOf_2 rfl (lv_at hl 0 rfl) ?_
      refine z_get C hP 0 rfl rfl in_X9 36 (by decide) q1920 rfl dX9_levelOf_3 ?_
      refine lv_iload_n hx hb dX9_levelOf_6 rfl (lv_at hl 2 rfl) ?_
      refine z_iald C hP 2 rfl (i) rfl (by omega) (by decide) dX9_levelOf_7 ?_
      refine lv_aload_n hx hb dX9_levelOf_8 rfl (lv_at hl 0 rfl) ?_
      refine z_get C hP 0 rfl rfl in_X9 33 (by decide) q1917 rfl dX9_levelOf_9 ?_
      refine lv_iload_n hx hb dX9_levelOf_12 rfl (lv_at hl 1 rfl) ?_
      refine z_iald C hP 1 rfl (s0) rfl (by omega) (by decide) dX9_levelOf_13 ?_
      refine z_icmp_eq (tgt := 23) C ⟨by omega, by omega⟩ ⟨by omega, by omega⟩ dX9_levelOf_14 (by decide) (fun c_14 => ?_) (fun c_14 => ?_)
      · refine lv_iload_n hx hb dX9_levelOf_23 rfl (lv_at hl 2 rfl) ?_
        exact z_iret C hlk hr hQ (by rcases Nat.lt_or_ge i m0 with q | q; exact absurd c_14 (hm2 i q); omega) dX9_levelOf_24
      · have hi2 : i < m0 := by rcases Nat.lt_or_ge i m0 with q | q; exact q; exact absurd hm1 (by rw [show m0 = i by omega]; exact c_14)
        refine lv_iinc (v := zI ((i + 1 : Nat) : Int)) (lv' := [(2, .int (zI ((i + 1 : Nat) : Int))), (0, .ref (a)), (1, .int (zI ((s0 : Nat) : Int)))]) hx hb dX9_levelOf_17 hl (k := 2) rfl (zI_inc (by omega)) (by decide) rfl (fun ls hl => ?_)
        refine lv_goto (tgt := 2) hx hb dX9_levelOf_20 (by decide) ?_
        exact ih2 (i + 1) (by rcases Nat.lt_or_ge i m0 with q | q; omega; exact absurd hm1 (by rw [show m0 = i by omega]; exact c_14)) (by omega) ls (lv_sub hl [1, 2, 0] rfl)
  exact L2 ((m0 - 0) + 1) (0) (by first | with_reducible assumption | omega | with_reducible rfl) (by omega) ls (lv_sub hl [1, 2, 0] rfl)
set_option maxHeartbeats 600000 in
set_option maxRecDepth 100000 in
theorem k_X9_leastOf (l : Launch) (D : va_G) (dA : Nat → ClassId) (a : Nat) (v0 v1 v2 v3 v4 v5 v6 v7 v8 v9 v10 v11 v12 v13 v14 v15 v16 v22 v23 v24 v25 v26 v27 v28 v29 v30 v31 v32 v34 v35 v37 v38 v39 v40 v41 v42 v43 v44 : Value) (w le : Nat) (ra rl : Bool) (qn qe qv : Nat) (eo : Nat → Int) (en : Int) (m0 : Nat) (hm : m0 < 65536) (hm1 : eo m0 = en) (hm2 : ∀ j, j < m0 → eo j ≠ en) (hen : zR en) (be : ∀ j, -100000 ≤ eo j ∧ eo j ≤ 100000) : zM l yX9_leastOf cX9_leastOf 3 (some .int) (zRm 0 0) D dA [.ref (a), .int (zI (en))] [(a, .inr (9, [v0, v1, v2, v3, v4, v5, v6, v7, v8, v9, v10, v11, v12, v13, v14, v15, v16, .int (zI ((w : Nat) : Int)), .int (zI ((le : Nat) : Int)), .int (zB (ra)), .int (zB (rl)), .ref (qn), v22, v23, v24, v25, v26, v27, v28, v29, v30, v31, v32, .ref (qe), v34, v35, .ref (qv), v37, v38, v39, v40, v41, v42, v43, v44])), (qe, .inl (dA 3, 65536, .inl (fun jz => zI (eo jz))))] (some (.int (zI ((m0 : Nat) : Int)))) := by
  refine zM.of (by decide +kernel) rfl ?_
  intro pp ee ss mm args below meth cd Q C hr hlk hQ hP ls hl
  have hx := C.1.1
  have hb := C.1.2.1
  have hl : lv_has ls 3 [(0, .ref (a)), (1, .int (zI (en)))] := hl
  refine z_iconst C dX9_leastOf_0 ?_
  refine lv_istore_n (lv' := [(2, .int (zI 0)), (0, .ref (a)), (1, .int (zI (en)))]) hx hb dX9_leastOf_1 rfl hl (by decide) rfl (fun ls hl => ?_)
  have L2 : ∀ (N : Nat) (i : Nat), (i ≤ m0) → (m0 - i) < N → ∀ ls : Array Slot, lv_has ls 3 [(0, .ref (a)), (1, .int (zI (en))), (2, .int (zI ((i : Nat) : Int)))] → W pp l ee (zRm 0 0) ss mm args below meth cd ss.heap [] 0 0 Q (F0 mm 2 ls []) := by
    intro N
    induction N with
    | zero => intro i _ hm; exact absurd hm (Nat.not_lt_zero _)
    | succ N ih2 =>
      intro i hi hmz2 ls hl
      have b8 := be i
      refine lv_aload_n hx hb dX9_leastOf_2 rfl (lv_at hl 0 rfl) ?_
      refine z_get C hP 0 rfl rfl in_X9 33 (by decide) q1917 rfl dX9_leastOf_3 ?_
      refine lv_iload_n hx hb dX9_leastOf_6 rfl (lv_at hl 2 rfl) ?_
      refine z_iald C hP 1 rfl (i) rfl (by omega) (by decide) dX9_leastOf_7 ?_
      refine lv_iload_n hx hb dX9_leastOf_8 rfl (lv_at hl 1 rfl) ?_
      refine z_icmp_eq (tgt := 18) C ⟨by omega, by omega⟩ ⟨by omega, by omega⟩ dX9_leastOf_9 (by decide) (fun c_9 => ?_) (fun c_9 => ?_)
      · refine lv_iload_n hx hb dX9_leastOf_18 rfl (lv_at hl 2 rfl) ?_
        exact z_iret C hlk hr hQ (by rcases Nat.lt_or_ge i m0 with q | q; exact absurd c_9 (hm2 i q); omega) dX9_leastOf_19
      · have hi2 : i < m0 := by rcases Nat.lt_or_ge i m0 with q | q; exact q; exact absurd hm1 (by rw [show m0 = i by omega]; exact c_9)
        refine lv_iinc (v := zI ((i + 1 : Nat) : Int)) (lv' := [(2, .int (zI ((i + 1 : Nat) : Int))), (0, .ref (a)), (1, .int (zI (en)))]) hx hb dX9_leastOf_12 hl (k := 2) rfl (zI_inc (by omega)) (by decide) rfl (fun ls hl => ?_)
        refine lv_goto (tgt := 2) hx hb dX9_leastOf_15 (by decide) ?_
        exact ih2 (i + 1) (by first | with_reducible assumption | omega | with_reducible rfl) (by omega) ls (lv_sub hl [1, 2, 0] rfl)
  exact L2 ((m0 - 0) + 1) (0) (by first | with_reducible assumption | omega | with_reducible rfl) (by omega) ls (lv_sub hl [1, 2, 0] rfl)
set_option maxHeartbeats 600000 in
set_option maxRecDepth 100000 in
theorem k_X9_upsOf (l : Launch) (D : va_G) (dA : Nat → ClassId) (a : Nat) (v0 v1 v2 v3 v4 v5 v6 v7 v8 v9 v10 v11 v12 v13 v14 v15 v16 v22 v23 v24 v25 v26 v27 v28 v29 v30 v31 v32 v34 v35 v37 v38 v39 v40 v41 v42 v43 v44 : Value) (w le : Nat) (ra rl : Bool) (qn qe qv : Nat) (eo : Nat → Int) (en sg : Int) (hwl : w * le ≤ 16) (hen : zR en) (hsg : -1 ≤ sg ∧ sg ≤ 1) (be : ∀ j, -100000 ≤ eo j ∧ eo j ≤ 100000) : zM l yX9_upsOf cX9_upsOf 5 (some .int) (zRm 2 40) D dA [.ref (a), .int (zI (en)), .int (zI (sg))] [(a, .inr (9, [v0, v1, v2, v3, v4, v5, v6, v7, v8, v9, v10, v11, v12, v13, v14, v15, v16, .int (zI ((w : Nat) : Int)), .int (zI ((le : Nat) : Int)), .int (zB (ra)), .int (zB (rl)), .ref (qn), v22, v23, v24, v25, v26, v27, v28, v29, v30, v31, v32, .ref (qe), v34, v35, .ref (qv), v37, v38, v39, v40, v41, v42, v43, v44])), (qe, .inl (dA 3, 65536, .inl (fun jz => zI (eo jz))))] (some (.int (zI (sg * upN eo en sg (nst w le))))) := by
  refine zM.of (by decide +kernel) rfl ?_
  intro pp ee ss mm args below meth cd Q C hr hlk hQ hP ls hl
  have hx := C.1.1
  have hb := C.1.2.1
  have hl : lv_has ls 5 [(0, .ref (a)), (1, .int (zI (en))), (2, .int (zI (sg)))] := hl
  have hns : nst w le ≤ 65536 := nst_le hwl
  refine z_ldcw C (100000) q2186 rfl dX9_upsOf_0 ?_
  refine lv_istore_n (lv' := [(3, .int (zI 100000)), (0, .ref (a)), (1, .int (zI (en))), (2, .int (zI (sg)))]) hx hb dX9_upsOf_3 rfl hl (by decide) rfl (fun ls hl => ?_)
  refine z_iconst C dX9_upsOf_4 ?_
  refine lv_istore (lv' := [(4, .int (zI 0)), (3, .int (zI 100000)), (0, .ref (a)), (1, .int (zI (en))), (2, .int (zI (sg)))]) hx hb dX9_upsOf_5 hl (by decide) rfl (fun ls hl => ?_)
  have L7 : ∀ (N : Nat) (i : Nat) (bs : Int), (i ≤ nst w le) → (bs = upN eo en sg i) → (-32 ≤ bs ∧ bs ≤ 100000) → (nst w le - i) < N → ∀ ls : Array Slot, lv_has ls 5 [(0, .ref (a)), (1, .int (zI (en))), (2, .int (zI (sg))), (3, .int (zI (bs))), (4, .int (zI ((i : Nat) : Int)))] → W pp l ee (zRm 2 40) ss mm args below meth cd ss.heap [] 0 0 Q (F0 mm 7 ls []) := by
    intro N
    induction N with
    | zero => intro i bs _ _ _ hm; exact absurd hm (Nat.not_lt_zero _)
    | succ N ih7 =>
      intro i bs hi hs hbs hmz7 ls hl
      refine lv_iload hx hb dX9_upsOf_7 (lv_at hl 4 rfl) ?_
      refine lv_aload_n hx hb dX9_upsOf_9 rfl (lv_at hl 0 rfl) ?_
      refine z_cV (n := 0) (As := []) (rest := [.int (zI ((i : Nat) : Int))]) C hP (k_X9_states l D dA (a) (v0) (v1) (v2) (v3) (v4) (v5) (v6) (v7) (v8) (v9) (v10) (v11) (v12) (v13) (v14) (v15) (v16) (v22) (v23) (v24) (v25) (v26) (v27) (v28) (v29) (v30) (v31) (v32) (.ref (qe)) (v34) (v35) (.ref (qv)) (v37) (v38) (v39) (v40) (v41) (v42) (v43) (v44) (w) (le) (ra) (rl) (qn) (by first | with_reducible assumption | omega | with_reducible rfl)) (lw_V q2171 q2173 qs85 q124 q2174) (by decide +kernel) rfl ⟨Nat.le_of_ble_eq_true rfl, Nat.le_of_ble_eq_true rfl⟩ hl.1 (hP.sub [0] rfl) 0 rfl rfl rfl (Nat.le_of_ble_eq_true rfl) dX9_upsOf_10 (Nat.zero_le _) (Nat.zero_le _) ?_
      refine z_icmp_ge (tgt := 52) C ⟨by omega, by omega⟩ ⟨by omega, by omega⟩ dX9_upsOf_13 (by decide) (fun c_13 => ?_) (fun c_13 => ?_)
      · refine lv_iload_n hx hb dX9_upsOf_52 rfl (lv_at hl 2 rfl) ?_
        refine lv_iload_n hx hb dX9_upsOf_53 rfl (lv_at hl 3 rfl) ?_
        refine z_imul C dX9_upsOf_54 ?_
        exact z_iret C hlk hr hQ (by rw [show nst w le = i by omega, hs]) dX9_upsOf_55
      · have b9 := be i
        have hp9 : pop i ≤ 32 := pcf_le 32 i
        have hm9 := mul3 (m := 1) (n := 32) (a := sg) (b := (pop i : Int)) (by omega) (by omega)
        refine lv_aload_n hx hb dX9_upsOf_16 rfl (lv_at hl 0 rfl) ?_
        refine z_get C hP 0 rfl rfl in_X9 33 (by decide) q1917 rfl dX9_upsOf_17 ?_
        refine lv_iload hx hb dX9_upsOf_20 (lv_at hl 4 rfl) ?_
        refine z_iald C hP 1 rfl (i) rfl (by omega) (by decide) dX9_upsOf_22 ?_
        refine lv_iload_n hx hb dX9_upsOf_23 rfl (lv_at hl 1 rfl) ?_
        refine z_icmp_ne (tgt := 46) C ⟨by omega, by omega⟩ ⟨by omega, by omega⟩ dX9_upsOf_24 (by decide) (fun c_24 => ?_) (fun c_24 => ?_)
        · refine lv_iinc (v := zI ((i + 1 : Nat) : Int)) (lv' := [(4, .int (zI ((i + 1 : Nat) : Int))), (0, .ref (a)), (1, .int (zI (en))), (2, .int (zI (sg))), (3, .int (zI (bs)))]) hx hb dX9_upsOf_46 hl (k := 4) rfl (zI_inc (by omega)) (by decide) rfl (fun ls hl => ?_)
          refine lv_goto (tgt := 7) hx hb dX9_upsOf_49 (by decide) ?_
          exact ih7 (i + 1) ((bs)) (by first | with_reducible assumption | omega | with_reducible rfl) (by simp only [upN]; rw [← hs]; first | (rw [if_neg (by omega)]; done) | (rw [if_pos (by omega)]; done)) (by first | exact hbs | omega) (by omega) ls (lv_sub hl [1, 2, 3, 4, 0] rfl)
        · refine lv_iload_n hx hb dX9_upsOf_27 rfl (lv_at hl 2 rfl) ?_
          refine lv_iload hx hb dX9_upsOf_28 (lv_at hl 4 rfl) ?_
          refine z_cS (n := 1) (As := [.int (zI ((i : Nat) : Int))]) (rest := [.int (zI (sg))]) C (k_X9_bitsOf l D dA (i) (by first | with_reducible assumption | omega | with_reducible rfl)) (lw_S q2232 q2233 q124 q2234) (by decide +kernel) rfl ⟨Nat.le_of_ble_eq_true rfl, Nat.le_of_ble_eq_true rfl⟩ hl.1 (hP.sub [] rfl) rfl (Nat.le_of_ble_eq_true rfl) dX9_upsOf_30 (Nat.zero_le _) (Nat.zero_le _) ?_
          refine z_imul C dX9_upsOf_33 ?_
          refine lv_iload_n hx hb dX9_upsOf_34 rfl (lv_at hl 3 rfl) ?_
          refine z_icmp_ge (tgt := 46) C ⟨by omega, by omega⟩ ⟨by omega, by omega⟩ dX9_upsOf_35 (by decide) (fun c_35 => ?_) (fun c_35 => ?_)
          · refine lv_iinc (v := zI ((i + 1 : Nat) : Int)) (lv' := [(4, .int (zI ((i + 1 : Nat) : Int))), (0, .ref (a)), (1, .int (zI (en))), (2, .int (zI (sg))), (3, .int (zI (bs)))]) hx hb dX9_upsOf_46 hl (k := 4) rfl (zI_inc (by omega)) (by decide) rfl (fun ls hl => ?_)
            refine lv_goto (tgt := 7) hx hb dX9_upsOf_49 (by decide) ?_
            exact ih7 (i + 1) ((bs)) (by first | with_reducible assumption | omega | with_reducible rfl) (by simp only [upN]; rw [← hs]; first | (rw [if_neg (by omega)]; done) | (rw [if_pos (by omega)]; done)) (by first | exact hbs | omega) (by omega) ls (lv_sub hl [1, 2, 3, 4, 0] rfl)
          · refine lv_iload_n hx hb dX9_upsOf_38 rfl (lv_at hl 2 rfl) ?_
            refine lv_iload hx hb dX9_upsOf_39 (lv_at hl 4 rfl) ?_
            refine z_cS (n := 1) (As := [.int (zI ((i : Nat) : Int))]) (rest := [.int (zI (sg))]) C (k_X9_bitsOf l D dA (i) (by first | with_reducible assumption | omega | with_reducible rfl)) (lw_S q2232 q2233 q124 q2234) (by decide +kernel) rfl ⟨Nat.le_of_ble_eq_true rfl, Nat.le_of_ble_eq_true rfl⟩ hl.1 (hP.sub [] rfl) rfl (Nat.le_of_ble_eq_true rfl) dX9_upsOf_41 (Nat.zero_le _) (Nat.zero_le _) ?_
            refine z_imul C dX9_upsOf_44 ?_
            refine lv_istore_n (lv' := [(3, .int (zI ((sg) * ((pop i : Nat) : Int)))), (0, .ref (a)), (1, .int (zI (en))), (2, .int (zI (sg))), (4, .int (zI ((i : Nat) : Int)))]) hx hb dX9_upsOf_45 rfl hl (by decide) rfl (fun ls hl => ?_)
            refine lv_iinc (v := zI ((i + 1 : Nat) : Int)) (lv' := [(4, .int (zI ((i + 1 : Nat) : Int))), (3, .int (zI ((sg) * ((pop i : Nat) : Int)))), (0, .ref (a)), (1, .int (zI (en))), (2, .int (zI (sg)))]) hx hb dX9_upsOf_46 hl (k := 4) rfl (zI_inc (by omega)) (by decide) rfl (fun ls hl => ?_)
            refine lv_goto (tgt := 7) hx hb dX9_upsOf_49 (by decide) ?_
            exact ih7 (i + 1) (((sg) * ((pop i : Nat) : Int))) (by first | with_reducible assumption | omega | with_reducible rfl) (by simp only [upN]; rw [← hs]; first | (rw [if_neg (by omega)]; done) | (rw [if_pos (by omega)]; done)) (by first | exact hbs | omega) (by omega) ls (lv_sub hl [2, 3, 4, 1, 0] rfl)
  exact L7 ((nst w le - 0) + 1) (0) (100000) (by first | with_reducible assumption | omega | with_reducible rfl) rfl (by first | with_reducible assumption | omega | with_reducible rfl) (by omega) ls (lv_sub hl [2, 3, 4, 1, 0] rfl)
set_option maxHeartbeats 600000 in
set_option maxRecDepth 100000 in
theorem k_X9_lawfulMany (l : Launch) (D : va_G) (dA : Nat → ClassId) (a : Nat) (v0 v1 v2 v3 v4 v5 v6 v7 v8 v9 v10 v11 v12 v13 v14 v15 v16 v22 v23 v24 v25 v26 v27 v28 v29 v30 v31 v32 v33 v34 v35 v36 v37 v38 v39 v40 v41 v42 v43 v44 : Value) (w le : Nat) (ra rl : Bool) (qn : Nat) (f : Nat → Int) (hwl : w * le ≤ 16) (bo : ∀ j, -1000000 ≤ f j ∧ f j ≤ 1000000) : zM l yX9_lawfulMany cX9_lawfulMany 3 (some .int) (zRm 3 61) D dA [.ref (a)] [(a, .inr (9, [v0, v1, v2, v3, v4, v5, v6, v7, v8, v9, v10, v11, v12, v13, v14, v15, v16, .int (zI ((w : Nat) : Int)), .int (zI ((le : Nat) : Int)), .int (zB (ra)), .int (zB (rl)), .ref (qn), v22, v23, v24, v25, v26, v27, v28, v29, v30, v31, v32, v33, v34, v35, v36, v37, v38, v39, v40, v41, v42, v43, v44])), (qn, .inl (dA 3, 66, .inl (fun jz => zI (f jz))))] (some (.int (zI ((cntN (lawM w le f) (nst w le) : Nat) : Int)))) := by
  refine zM.of (by decide +kernel) rfl ?_
  intro pp ee ss mm args below meth cd Q C hr hlk hQ hP ls hl
  have hx := C.1.1
  have hb := C.1.2.1
  have hl : lv_has ls 3 [(0, .ref (a))] := hl
  have hns : nst w le ≤ 65536 := nst_le hwl
  refine z_iconst C dX9_lawfulMany_0 ?_
  refine lv_istore_n (lv' := [(1, .int (zI 0)), (0, .ref (a))]) hx hb dX9_lawfulMany_1 rfl hl (by decide) rfl (fun ls hl => ?_)
  refine z_iconst C dX9_lawfulMany_2 ?_
  refine lv_istore_n (lv' := [(2, .int (zI 0)), (1, .int (zI 0)), (0, .ref (a))]) hx hb dX9_lawfulMany_3 rfl hl (by decide) rfl (fun ls hl => ?_)
  have L4 : ∀ (N : Nat) (i nn : Nat), (i ≤ nst w le) → (nn = cntN (lawM w le f) i) → (nst w le - i) < N → ∀ ls : Array Slot, lv_has ls 3 [(0, .ref (a)), (1, .int (zI ((nn : Nat) : Int))), (2, .int (zI ((i : Nat) : Int)))] → W pp l ee (zRm 3 61) ss mm args below meth cd ss.heap [] 0 0 Q (F0 mm 4 ls []) := by
    intro N
    induction N with
    | zero => intro i nn _ _ hm; exact absurd hm (Nat.not_lt_zero _)
    | succ N ih4 =>
      intro i nn hi hs hmz4 ls hl
      refine lv_iload_n hx hb dX9_lawfulMany_4 rfl (lv_at hl 2 rfl) ?_
      refine lv_aload_n hx hb dX9_lawfulMany_5 rfl (lv_at hl 0 rfl) ?_
      refine z_cV (n := 0) (As := []) (rest := [.int (zI ((i : Nat) : Int))]) C hP (k_X9_states l D dA (a) (v0) (v1) (v2) (v3) (v4) (v5) (v6) (v7) (v8) (v9) (v10) (v11) (v12) (v13) (v14) (v15) (v16) (v22) (v23) (v24) (v25) (v26) (v27) (v28) (v29) (v30) (v31) (v32) (v33) (v34) (v35) (v36) (v37) (v38) (v39) (v40) (v41) (v42) (v43) (v44) (w) (le) (ra) (rl) (qn) (by first | with_reducible assumption | omega | with_reducible rfl)) (lw_V q2171 q2173 qs85 q124 q2174) (by decide +kernel) rfl ⟨Nat.le_of_ble_eq_true rfl, Nat.le_of_ble_eq_true rfl⟩ hl.1 (hP.sub [0] rfl) 0 rfl rfl rfl (Nat.le_of_ble_eq_true rfl) dX9_lawfulMany_6 (Nat.zero_le _) (Nat.zero_le _) ?_
      refine z_icmp_ge (tgt := 29) C ⟨by omega, by omega⟩ ⟨by omega, by omega⟩ dX9_lawfulMany_9 (by decide) (fun c_9 => ?_) (fun c_9 => ?_)
      · refine lv_iload_n hx hb dX9_lawfulMany_29 rfl (lv_at hl 1 rfl) ?_
        exact z_iret C hlk hr hQ (by rw [show nst w le = i by omega, hs]) dX9_lawfulMany_30
      · have h9 := cntN_le (lawM w le f) i
        refine lv_aload_n hx hb dX9_lawfulMany_12 rfl (lv_at hl 0 rfl) ?_
        refine lv_iload_n hx hb dX9_lawfulMany_13 rfl (lv_at hl 2 rfl) ?_
        refine z_cV (n := 1) (As := [.int (zI ((i : Nat) : Int))]) (rest := []) C hP (k_X9_isLawful l D dA (a) (v0) (v1) (v2) (v3) (v4) (v5) (v6) (v7) (v8) (v9) (v10) (v11) (v12) (v13) (v14) (v15) (v16) (v22) (v23) (v24) (v25) (v26) (v27) (v28) (v29) (v30) (v31) (v32) (v33) (v34) (v35) (v36) (v37) (v38) (v39) (v40) (v41) (v42) (v43) (v44) (w) (le) (ra) (rl) (qn) (f) (((i : Nat) : Int)) (by first | with_reducible assumption | omega | with_reducible rfl) (by first | with_reducible assumption | omega | with_reducible rfl) (by first | with_reducible assumption | omega | with_reducible rfl)) (lw_V q2175 q2177 qs86 q124 q2178) (by decide +kernel) rfl ⟨Nat.le_of_ble_eq_true rfl, Nat.le_of_ble_eq_true rfl⟩ hl.1 (hP.sub [0, 1] rfl) 0 rfl rfl rfl (Nat.le_of_ble_eq_true rfl) dX9_lawfulMany_14 (Nat.zero_le _) (Nat.zero_le _) ?_
        refine z_if_eqB (tgt := 23) C dX9_lawfulMany_17 (by decide) (fun c_17 => ?_) (fun c_17 => ?_)
        · refine lv_iinc (v := zI ((i + 1 : Nat) : Int)) (lv' := [(2, .int (zI ((i + 1 : Nat) : Int))), (0, .ref (a)), (1, .int (zI ((nn : Nat) : Int)))]) hx hb dX9_lawfulMany_23 hl (k := 2) rfl (zI_inc (by omega)) (by decide) rfl (fun ls hl => ?_)
          refine lv_goto (tgt := 4) hx hb dX9_lawfulMany_26 (by decide) ?_
          exact ih4 (i + 1) (nn) (by first | with_reducible assumption | omega | with_reducible rfl) (by rw [lawMZ_nat] at c_17; first | rw [cntN_t c_17, hs] | rw [cntN_f c_17, hs]) (by omega) ls (lv_sub hl [1, 2, 0] rfl)
        · refine lv_iinc (v := zI ((nn + 1 : Nat) : Int)) (lv' := [(1, .int (zI ((nn + 1 : Nat) : Int))), (0, .ref (a)), (2, .int (zI ((i : Nat) : Int)))]) hx hb dX9_lawfulMany_20 hl (k := 1) rfl (zI_inc (by omega)) (by decide) rfl (fun ls hl => ?_)
          refine lv_iinc (v := zI ((i + 1 : Nat) : Int)) (lv' := [(2, .int (zI ((i + 1 : Nat) : Int))), (1, .int (zI ((nn + 1 : Nat) : Int))), (0, .ref (a))]) hx hb dX9_lawfulMany_23 hl (k := 2) rfl (zI_inc (by omega)) (by decide) rfl (fun ls hl => ?_)
          refine lv_goto (tgt := 4) hx hb dX9_lawfulMany_26 (by decide) ?_
          exact ih4 (i + 1) (nn + 1) (by first | with_reducible assumption | omega | with_reducible rfl) (by rw [lawMZ_nat] at c_17; first | rw [cntN_t c_17, hs] | rw [cntN_f c_17, hs]) (by omega) ls (lv_sub hl [2, 1, 0] rfl)
  exact L4 ((nst w le - 0) + 1) (0) (0) (by first | with_reducible assumption | omega | with_reducible rfl) rfl (by omega) ls (lv_sub hl [2, 1, 0] rfl)
set_option maxHeartbeats 600000 in
set_option maxRecDepth 100000 in
theorem k_X9_pinned (l : Launch) (D : va_G) (dA : Nat → ClassId) (a : Nat) (v0 v1 v2 v3 v4 v5 v6 v7 v8 v9 v10 v11 v12 v13 v14 v15 v16 v22 v23 v24 v25 v26 v27 v28 v29 v30 v31 v32 v33 v34 v35 v36 v37 v38 v39 v40 v41 v42 v43 v44 : Value) (w le : Nat) (ra rl : Bool) (qn : Nat) (f : Nat → Int) (hwl : w * le ≤ 16) (bo : ∀ j, -1000000 ≤ f j ∧ f j ≤ 1000000) : zM l yX9_pinned cX9_pinned 3 (some .int) (zRm 1 20) D dA [.ref (a)] [(a, .inr (9, [v0, v1, v2, v3, v4, v5, v6, v7, v8, v9, v10, v11, v12, v13, v14, v15, v16, .int (zI ((w : Nat) : Int)), .int (zI ((le : Nat) : Int)), .int (zB (ra)), .int (zB (rl)), .ref (qn), v22, v23, v24, v25, v26, v27, v28, v29, v30, v31, v32, v33, v34, v35, v36, v37, v38, v39, v40, v41, v42, v43, v44])), (qn, .inl (dA 3, 66, .inl (fun jz => zI (f jz))))] (some (.int (zI ((pnN f (w * le) : Nat) : Int)))) := by
  refine zM.of (by decide +kernel) rfl ?_
  intro pp ee ss mm args below meth cd Q C hr hlk hQ hP ls hl
  have hx := C.1.1
  have hb := C.1.2.1
  have hl : lv_has ls 3 [(0, .ref (a))] := hl
  refine z_iconst C dX9_pinned_0 ?_
  refine lv_istore_n (lv' := [(1, .int (zI 0)), (0, .ref (a))]) hx hb dX9_pinned_1 rfl hl (by decide) rfl (fun ls hl => ?_)
  refine z_iconst C dX9_pinned_2 ?_
  refine lv_istore_n (lv' := [(2, .int (zI 0)), (1, .int (zI 0)), (0, .ref (a))]) hx hb dX9_pinned_3 rfl hl (by decide) rfl (fun ls hl => ?_)
  have L4 : ∀ (N : Nat) (i nn : Nat), (i ≤ w * le) → (nn = pnN f i) → (w * le - i) < N → ∀ ls : Array Slot, lv_has ls 3 [(0, .ref (a)), (1, .int (zI ((nn : Nat) : Int))), (2, .int (zI ((i : Nat) : Int)))] → W pp l ee (zRm 1 20) ss mm args below meth cd ss.heap [] 0 0 Q (F0 mm 4 ls []) := by
    intro N
    induction N with
    | zero => intro i nn _ _ hm; exact absurd hm (Nat.not_lt_zero _)
    | succ N ih4 =>
      intro i nn hi hs hmz4 ls hl
      refine lv_iload_n hx hb dX9_pinned_4 rfl (lv_at hl 2 rfl) ?_
      refine lv_aload_n hx hb dX9_pinned_5 rfl (lv_at hl 0 rfl) ?_
      refine z_cV (n := 0) (As := []) (rest := [.int (zI ((i : Nat) : Int))]) C hP (k_X9_sites l D dA (a) (v0) (v1) (v2) (v3) (v4) (v5) (v6) (v7) (v8) (v9) (v10) (v11) (v12) (v13) (v14) (v15) (v16) (v22) (v23) (v24) (v25) (v26) (v27) (v28) (v29) (v30) (v31) (v32) (v33) (v34) (v35) (v36) (v37) (v38) (v39) (v40) (v41) (v42) (v43) (v44) (w) (le) (ra) (rl) (qn)) (lw_V q2112 q2114 qs80 q124 q2115) (by decide +kernel) rfl ⟨Nat.le_of_ble_eq_true rfl, Nat.le_of_ble_eq_true rfl⟩ hl.1 (hP.sub [0] rfl) 0 rfl rfl rfl (Nat.le_of_ble_eq_true rfl) dX9_pinned_6 (Nat.zero_le _) (Nat.zero_le _) ?_
      refine z_icmp_ge (tgt := 36) C ⟨by omega, by omega⟩ ⟨by omega, by omega⟩ dX9_pinned_9 (by decide) (fun c_9 => ?_) (fun c_9 => ?_)
      · refine lv_iload_n hx hb dX9_pinned_36 rfl (lv_at hl 1 rfl) ?_
        exact z_iret C hlk hr hQ (by rw [show w * le = i by omega, hs]) dX9_pinned_37
      · have b9 := bo (48 + i)
        refine lv_aload_n hx hb dX9_pinned_12 rfl (lv_at hl 0 rfl) ?_
        refine z_get C hP 0 rfl rfl in_X9 21 (by decide) q1905 rfl dX9_pinned_13 ?_
        refine z_bipush C dX9_pinned_16 rfl ?_
        refine lv_iload_n hx hb dX9_pinned_18 rfl (lv_at hl 2 rfl) ?_
        refine z_iaddN C (48) (i) rfl rfl dX9_pinned_19 ?_
        refine z_iald C hP 1 rfl ((48 + i)) rfl (by omega) (by decide) dX9_pinned_20 ?_
        refine z_if_le (tgt := 30) C ⟨by omega, by omega⟩ dX9_pinned_21 (by decide) (fun c_21 => ?_) (fun c_21 => ?_)
        · refine lv_iinc (v := zI ((i + 1 : Nat) : Int)) (lv' := [(2, .int (zI ((i + 1 : Nat) : Int))), (0, .ref (a)), (1, .int (zI ((nn : Nat) : Int)))]) hx hb dX9_pinned_30 hl (k := 2) rfl (zI_inc (by omega)) (by decide) rfl (fun ls hl => ?_)
          refine lv_goto (tgt := 4) hx hb dX9_pinned_33 (by decide) ?_
          exact ih4 (i + 1) (nn) (by first | with_reducible assumption | omega | with_reducible rfl) (by simp only [pnN]; rw [← hs]; first | (rw [if_neg (by omega)]; done) | (rw [if_pos (by omega)]; done)) (by omega) ls (lv_sub hl [1, 2, 0] rfl)
        · refine lv_iload_n hx hb dX9_pinned_24 rfl (lv_at hl 1 rfl) ?_
          refine z_iconst C dX9_pinned_25 ?_
          refine lv_iload_n hx hb dX9_pinned_26 rfl (lv_at hl 2 rfl) ?_
          refine z_ishl1 C (i) rfl rfl (by omega) dX9_pinned_27 ?_
          refine z_ior C (nn) ((2 ^ i)) rfl rfl dX9_pinned_28 ?_
          refine lv_istore_n (lv' := [(1, .int (zI (((nn ||| (2 ^ i)) : Nat) : Int))), (0, .ref (a)), (2, .int (zI ((i : Nat) : Int)))]) hx hb dX9_pinned_29 rfl hl (by decide) rfl (fun ls hl => ?_)
          refine lv_iinc (v := zI ((i + 1 : Nat) : Int)) (lv' := [(2, .int (zI ((i + 1 : Nat) : Int))), (1, .int (zI (((nn ||| (2 ^ i)) : Nat) : Int))), (0, .ref (a))]) hx hb dX9_pinned_30 hl (k := 2) rfl (zI_inc (by omega)) (by decide) rfl (fun ls hl => ?_)
          refine lv_goto (tgt := 4) hx hb dX9_pinned_33 (by decide) ?_
          exact ih4 (i + 1) ((nn ||| (2 ^ i))) (by first | with_reducible assumption | omega | with_reducible rfl) (by simp only [pnN]; rw [← hs]; first | (rw [if_neg (by omega)]; done) | (rw [if_pos (by omega)]; done)) (by omega) ls (lv_sub hl [2, 1, 0] rfl)
  exact L4 ((w * le - 0) + 1) (0) (0) (by first | with_reducible assumption | omega | with_reducible rfl) rfl (by omega) ls (lv_sub hl [2, 1, 0] rfl)
set_option maxHeartbeats 600000 in
set_option maxRecDepth 100000 in
theorem k_X9_ties (l : Launch) (D : va_G) (dA : Nat → ClassId) (a : Nat) (v0 v1 v2 v3 v4 v5 v6 v7 v8 v9 v10 v11 v12 v13 v14 v15 v16 v22 v23 v24 v25 v26 v27 v28 v29 v30 v31 v32 v33 v34 v35 v36 v37 v38 v39 v40 v41 v42 v43 v44 : Value) (w le : Nat) (ra rl : Bool) (qn : Nat) (hwl : w * le ≤ 16) : zM l yX9_ties cX9_ties 3 (some .int) (zRm 2 48) D dA [.ref (a)] [(a, .inr (9, [v0, v1, v2, v3, v4, v5, v6, v7, v8, v9, v10, v11, v12, v13, v14, v15, v16, .int (zI ((w : Nat) : Int)), .int (zI ((le : Nat) : Int)), .int (zB (ra)), .int (zB (rl)), .ref (qn), v22, v23, v24, v25, v26, v27, v28, v29, v30, v31, v32, v33, v34, v35, v36, v37, v38, v39, v40, v41, v42, v43, v44]))] (some (.int (zI ((tmN w le (rgOf ra rl) (2 * (w * le)) : Nat) : Int)))) := by
  refine zM.of (by decide +kernel) rfl ?_
  intro pp ee ss mm args below meth cd Q C hr hlk hQ hP ls hl
  have hx := C.1.1
  have hb := C.1.2.1
  have hl : lv_has ls 3 [(0, .ref (a))] := hl
  refine z_iconst C dX9_ties_0 ?_
  refine lv_istore_n (lv' := [(1, .int (zI 0)), (0, .ref (a))]) hx hb dX9_ties_1 rfl hl (by decide) rfl (fun ls hl => ?_)
  refine z_iconst C dX9_ties_2 ?_
  refine lv_istore_n (lv' := [(2, .int (zI 0)), (1, .int (zI 0)), (0, .ref (a))]) hx hb dX9_ties_3 rfl hl (by decide) rfl (fun ls hl => ?_)
  have L4 : ∀ (N : Nat) (j nn : Nat), (j ≤ 2 * (w * le)) → (nn = tmN w le (rgOf ra rl) j) → (nn ≤ j) → (2 * (w * le) - j) < N → ∀ ls : Array Slot, lv_has ls 3 [(0, .ref (a)), (1, .int (zI ((nn : Nat) : Int))), (2, .int (zI ((j : Nat) : Int)))] → W pp l ee (zRm 2 48) ss mm args below meth cd ss.heap [] 0 0 Q (F0 mm 4 ls []) := by
    intro N
    induction N with
    | zero => intro j nn _ _ _ hm; exact absurd hm (Nat.not_lt_zero _)
    | succ N ih4 =>
      intro j nn hj hs hnj hmz4 ls hl
      refine lv_iload_n hx hb dX9_ties_4 rfl (lv_at hl 2 rfl) ?_
      refine z_iconst C dX9_ties_5 ?_
      refine lv_aload_n hx hb dX9_ties_6 rfl (lv_at hl 0 rfl) ?_
      refine z_cV (n := 0) (As := []) (rest := [.int (zI 2), .int (zI ((j : Nat) : Int))]) C hP (k_X9_sites l D dA (a) (v0) (v1) (v2) (v3) (v4) (v5) (v6) (v7) (v8) (v9) (v10) (v11) (v12) (v13) (v14) (v15) (v16) (v22) (v23) (v24) (v25) (v26) (v27) (v28) (v29) (v30) (v31) (v32) (v33) (v34) (v35) (v36) (v37) (v38) (v39) (v40) (v41) (v42) (v43) (v44) (w) (le) (ra) (rl) (qn)) (lw_V q2112 q2114 qs80 q124 q2115) (by decide +kernel) rfl ⟨Nat.le_of_ble_eq_true rfl, Nat.le_of_ble_eq_true rfl⟩ hl.1 (hP.sub [0] rfl) 0 rfl rfl rfl (Nat.le_of_ble_eq_true rfl) dX9_ties_7 (Nat.zero_le _) (Nat.zero_le _) ?_
      refine z_imulN C (2) (w * le) rfl rfl dX9_ties_10 ?_
      refine z_icmp_ge (tgt := 45) C ⟨by omega, by omega⟩ ⟨by omega, by omega⟩ dX9_ties_11 (by decide) (fun c_11 => ?_) (fun c_11 => ?_)
      · refine lv_iload_n hx hb dX9_ties_45 rfl (lv_at hl 1 rfl) ?_
        exact z_iret C hlk hr hQ (by rw [show 2 * (w * le) = j by omega, hs]) dX9_ties_46
      · refine lv_aload_n hx hb dX9_ties_14 rfl (lv_at hl 0 rfl) ?_
        refine lv_iload_n hx hb dX9_ties_15 rfl (lv_at hl 2 rfl) ?_
        refine z_iconst C dX9_ties_16 ?_
        refine z_idivN C (j) (2) rfl rfl (by omega) ⟨by omega, by omega⟩ dX9_ties_17 ?_
        refine z_nmN (fun si_1 e_si_1 => ?_)
        have hk2 : si_1 < w * le := by omega
        refine lv_iload_n hx hb dX9_ties_18 rfl (lv_at hl 2 rfl) ?_
        refine z_iconst C dX9_ties_19 ?_
        refine z_iremN C (j) (2) rfl rfl (by omega) ⟨by omega, by omega⟩ dX9_ties_20 ?_
        refine z_nmN (fun pr_2 e_pr_2 => ?_)
        have hpr : pr_2 < 2 := by omega
        refine z_iconst C dX9_ties_21 ?_
        refine z_icmp_ne (tgt := 29) C ⟨by omega, by omega⟩ ⟨by decide, by decide⟩ dX9_ties_22 (by decide) (fun c_22 => ?_) (fun c_22 => ?_)
        · refine z_iconst C dX9_ties_29 ?_
          refine z_cV (n := 2) (As := [.int (zI ((si_1 : Nat) : Int)), .int (zI 0)]) (rest := []) C hP (k_X9_tieTo l D dA (a) (v0) (v1) (v2) (v3) (v4) (v5) (v6) (v7) (v8) (v9) (v10) (v11) (v12) (v13) (v14) (v15) (v16) (v22) (v23) (v24) (v25) (v26) (v27) (v28) (v29) (v30) (v31) (v32) (v33) (v34) (v35) (v36) (v37) (v38) (v39) (v40) (v41) (v42) (v43) (v44) (w) (le) (ra) (rl) (qn) (si_1) (false) (by first | with_reducible assumption | omega | with_reducible rfl) (by first | with_reducible assumption | omega | with_reducible rfl)) (lw_V q2128 q2130 qs82 q124 q2131) (by decide +kernel) rfl ⟨Nat.le_of_ble_eq_true rfl, Nat.le_of_ble_eq_true rfl⟩ hl.1 (hP.sub [0] rfl) 0 rfl rfl rfl (Nat.le_of_ble_eq_true rfl) dX9_ties_30 (Nat.zero_le _) (Nat.zero_le _) ?_
          refine z_nm (fun to_3 e_to_3 => ?_)
          have o_to_3 := oth_lt (rgOf ra rl) false hk2
          rw [← e_to_3] at o_to_3
          refine z_if_lt (tgt := 39) C ⟨by omega, by omega⟩ dX9_ties_33 (by decide) (fun c_33 => ?_) (fun c_33 => ?_)
          · refine lv_iinc (v := zI ((j + 1 : Nat) : Int)) (lv' := [(2, .int (zI ((j + 1 : Nat) : Int))), (0, .ref (a)), (1, .int (zI ((nn : Nat) : Int)))]) hx hb dX9_ties_39 hl (k := 2) rfl (zI_inc (by omega)) (by decide) rfl (fun ls hl => ?_)
            refine lv_goto (tgt := 4) hx hb dX9_ties_42 (by decide) ?_
            exact ih4 (j + 1) (nn) (by first | with_reducible assumption | omega | with_reducible rfl) (by have ha : decide (j % 2 = 1) = false := decide_eq_false (by omega); simp only [tmN]; rw [ha, ← hs, ← e_si_1]; first | (have h8 := tiT_neg e_to_3 c_33; omega) | (have h8 := tiT_pos e_to_3 c_33; omega)) (by first | with_reducible assumption | omega | with_reducible rfl) (by omega) ls (lv_sub hl [1, 2, 0] rfl)
          · refine lv_iinc (v := zI ((nn + 1 : Nat) : Int)) (lv' := [(1, .int (zI ((nn + 1 : Nat) : Int))), (0, .ref (a)), (2, .int (zI ((j : Nat) : Int)))]) hx hb dX9_ties_36 hl (k := 1) rfl (zI_inc (by omega)) (by decide) rfl (fun ls hl => ?_)
            refine lv_iinc (v := zI ((j + 1 : Nat) : Int)) (lv' := [(2, .int (zI ((j + 1 : Nat) : Int))), (1, .int (zI ((nn + 1 : Nat) : Int))), (0, .ref (a))]) hx hb dX9_ties_39 hl (k := 2) rfl (zI_inc (by omega)) (by decide) rfl (fun ls hl => ?_)
            refine lv_goto (tgt := 4) hx hb dX9_ties_42 (by decide) ?_
            exact ih4 (j + 1) (nn + 1) (by first | with_reducible assumption | omega | with_reducible rfl) (by have ha : decide (j % 2 = 1) = false := decide_eq_false (by omega); simp only [tmN]; rw [ha, ← hs, ← e_si_1]; first | (have h8 := tiT_neg e_to_3 c_33; omega) | (have h8 := tiT_pos e_to_3 c_33; omega)) (by first | with_reducible assumption | omega | with_reducible rfl) (by omega) ls (lv_sub hl [2, 1, 0] rfl)
        · refine z_iconst C dX9_ties_25 ?_
          refine lv_goto (tgt := 30) hx hb dX9_ties_26 (by decide) ?_
          refine z_cV (n := 2) (As := [.int (zI ((si_1 : Nat) : Int)), .int (zI 1)]) (rest := []) C hP (k_X9_tieTo l D dA (a) (v0) (v1) (v2) (v3) (v4) (v5) (v6) (v7) (v8) (v9) (v10) (v11) (v12) (v13) (v14) (v15) (v16) (v22) (v23) (v24) (v25) (v26) (v27) (v28) (v29) (v30) (v31) (v32) (v33) (v34) (v35) (v36) (v37) (v38) (v39) (v40) (v41) (v42) (v43) (v44) (w) (le) (ra) (rl) (qn) (si_1) (true) (by first | with_reducible assumption | omega | with_reducible rfl) (by first | with_reducible assumption | omega | with_reducible rfl)) (lw_V q2128 q2130 qs82 q124 q2131) (by decide +kernel) rfl ⟨Nat.le_of_ble_eq_true rfl, Nat.le_of_ble_eq_true rfl⟩ hl.1 (hP.sub [0] rfl) 0 rfl rfl rfl (Nat.le_of_ble_eq_true rfl) dX9_ties_30 (Nat.zero_le _) (Nat.zero_le _) ?_
          refine z_nm (fun to_4 e_to_4 => ?_)
          have o_to_4 := oth_lt (rgOf ra rl) true hk2
          rw [← e_to_4] at o_to_4
          refine z_if_lt (tgt := 39) C ⟨by omega, by omega⟩ dX9_ties_33 (by decide) (fun c_33 => ?_) (fun c_33 => ?_)
          · refine lv_iinc (v := zI ((j + 1 : Nat) : Int)) (lv' := [(2, .int (zI ((j + 1 : Nat) : Int))), (0, .ref (a)), (1, .int (zI ((nn : Nat) : Int)))]) hx hb dX9_ties_39 hl (k := 2) rfl (zI_inc (by omega)) (by decide) rfl (fun ls hl => ?_)
            refine lv_goto (tgt := 4) hx hb dX9_ties_42 (by decide) ?_
            exact ih4 (j + 1) (nn) (by first | with_reducible assumption | omega | with_reducible rfl) (by have ha : decide (j % 2 = 1) = true := decide_eq_true (by omega); simp only [tmN]; rw [ha, ← hs, ← e_si_1]; first | (have h8 := tiT_neg e_to_4 c_33; omega) | (have h8 := tiT_pos e_to_4 c_33; omega)) (by first | with_reducible assumption | omega | with_reducible rfl) (by omega) ls (lv_sub hl [1, 2, 0] rfl)
          · refine lv_iinc (v := zI ((nn + 1 : Nat) : Int)) (lv' := [(1, .int (zI ((nn + 1 : Nat) : Int))), (0, .ref (a)), (2, .int (zI ((j : Nat) : Int)))]) hx hb dX9_ties_36 hl (k := 1) rfl (zI_inc (by omega)) (by decide) rfl (fun ls hl => ?_)
            refine lv_iinc (v := zI ((j + 1 : Nat) : Int)) (lv' := [(2, .int (zI ((j + 1 : Nat) : Int))), (1, .int (zI ((nn + 1 : Nat) : Int))), (0, .ref (a))]) hx hb dX9_ties_39 hl (k := 2) rfl (zI_inc (by omega)) (by decide) rfl (fun ls hl => ?_)
            refine lv_goto (tgt := 4) hx hb dX9_ties_42 (by decide) ?_
            exact ih4 (j + 1) (nn + 1) (by first | with_reducible assumption | omega | with_reducible rfl) (by have ha : decide (j % 2 = 1) = true := decide_eq_true (by omega); simp only [tmN]; rw [ha, ← hs, ← e_si_1]; first | (have h8 := tiT_neg e_to_4 c_33; omega) | (have h8 := tiT_pos e_to_4 c_33; omega)) (by first | with_reducible assumption | omega | with_reducible rfl) (by omega) ls (lv_sub hl [2, 1, 0] rfl)
  exact L4 ((2 * (w * le) - 0) + 1) (0) (0) (by first | with_reducible assumption | omega | with_reducible rfl) rfl (by first | with_reducible assumption | omega | with_reducible rfl) (by omega) ls (lv_sub hl [2, 1, 0] rfl)
set_option maxHeartbeats 600000 in
set_option maxRecDepth 100000 in
theorem k_X9_clusters (l : Launch) (D : va_G) (dA : Nat → ClassId) (a : Nat) (v0 v1 v2 v3 v4 v5 v6 v7 v8 v9 v10 v11 v12 v13 v14 v15 v16 v22 v23 v24 v25 v26 v27 v28 v29 v30 v31 v32 v33 v34 v35 v36 v37 v38 v39 v40 v41 v42 v43 v44 : Value) (w le : Nat) (ra rl : Bool) (qn : Nat) (f : Nat → Int) (st : Nat) (hwl : w * le ≤ 16) (hst : st < 2147483648) (h64 : f 64 = (st : Int)) : zM l yX9_clusters cX9_clusters 3 (some .int) (zRm 3 74) D dA [.ref (a)] [(a, .inr (9, [v0, v1, v2, v3, v4, v5, v6, v7, v8, v9, v10, v11, v12, v13, v14, v15, v16, .int (zI ((w : Nat) : Int)), .int (zI ((le : Nat) : Int)), .int (zB (ra)), .int (zB (rl)), .ref (qn), v22, v23, v24, v25, v26, v27, v28, v29, v30, v31, v32, v33, v34, v35, v36, v37, v38, v39, v40, v41, v42, v43, v44])), (qn, .inl (dA 3, 66, .inl (fun jz => zI (f jz))))] (some (.int (zI ((cntN (fun k => decide (mcl w le (rgOf ra rl) st k &&& (2 ^ k - 1) = 0)) (w * le) : Nat) : Int)))) := by
  refine zM.of (by decide +kernel) rfl ?_
  intro pp ee ss mm args below meth cd Q C hr hlk hQ hP ls hl
  have hx := C.1.1
  have hb := C.1.2.1
  have hl : lv_has ls 3 [(0, .ref (a))] := hl
  refine z_iconst C dX9_clusters_0 ?_
  refine lv_istore_n (lv' := [(1, .int (zI 0)), (0, .ref (a))]) hx hb dX9_clusters_1 rfl hl (by decide) rfl (fun ls hl => ?_)
  refine z_iconst C dX9_clusters_2 ?_
  refine lv_istore_n (lv' := [(2, .int (zI 0)), (1, .int (zI 0)), (0, .ref (a))]) hx hb dX9_clusters_3 rfl hl (by decide) rfl (fun ls hl => ?_)
  have L4 : ∀ (N : Nat) (i nn : Nat), (i ≤ w * le) → (nn = cntN (fun k => decide (mcl w le (rgOf ra rl) st k &&& (2 ^ k - 1) = 0)) i) → (nn ≤ i) → (w * le - i) < N → ∀ ls : Array Slot, lv_has ls 3 [(0, .ref (a)), (1, .int (zI ((nn : Nat) : Int))), (2, .int (zI ((i : Nat) : Int)))] → W pp l ee (zRm 3 74) ss mm args below meth cd ss.heap [] 0 0 Q (F0 mm 4 ls []) := by
    intro N
    induction N with
    | zero => intro i nn _ _ _ hm; exact absurd hm (Nat.not_lt_zero _)
    | succ N ih4 =>
      intro i nn hi hs hni hmz4 ls hl
      refine lv_iload_n hx hb dX9_clusters_4 rfl (lv_at hl 2 rfl) ?_
      refine lv_aload_n hx hb dX9_clusters_5 rfl (lv_at hl 0 rfl) ?_
      refine z_cV (n := 0) (As := []) (rest := [.int (zI ((i : Nat) : Int))]) C hP (k_X9_sites l D dA (a) (v0) (v1) (v2) (v3) (v4) (v5) (v6) (v7) (v8) (v9) (v10) (v11) (v12) (v13) (v14) (v15) (v16) (v22) (v23) (v24) (v25) (v26) (v27) (v28) (v29) (v30) (v31) (v32) (v33) (v34) (v35) (v36) (v37) (v38) (v39) (v40) (v41) (v42) (v43) (v44) (w) (le) (ra) (rl) (qn)) (lw_V q2112 q2114 qs80 q124 q2115) (by decide +kernel) rfl ⟨Nat.le_of_ble_eq_true rfl, Nat.le_of_ble_eq_true rfl⟩ hl.1 (hP.sub [0] rfl) 0 rfl rfl rfl (Nat.le_of_ble_eq_true rfl) dX9_clusters_6 (Nat.zero_le _) (Nat.zero_le _) ?_
      refine z_icmp_ge (tgt := 35) C ⟨by omega, by omega⟩ ⟨by omega, by omega⟩ dX9_clusters_9 (by decide) (fun c_9 => ?_) (fun c_9 => ?_)
      · refine lv_iload_n hx hb dX9_clusters_35 rfl (lv_at hl 1 rfl) ?_
        exact z_iret C hlk hr hQ (by rw [show w * le = i by omega, hs]) dX9_clusters_36
      · have hm9 := mcl_lt (rg := rgOf ra rl) (st := st) hwl (show i < w * le by omega)
        have ha9 : mcl w le (rgOf ra rl) st i &&& (2 ^ i - 1) ≤ mcl w le (rgOf ra rl) st i := Nat.and_le_left
        refine lv_aload_n hx hb dX9_clusters_12 rfl (lv_at hl 0 rfl) ?_
        refine lv_iload_n hx hb dX9_clusters_13 rfl (lv_at hl 2 rfl) ?_
        refine z_cV (n := 1) (As := [.int (zI ((i : Nat) : Int))]) (rest := []) C hP (k_X9_clusterOf l D dA (a) (v0) (v1) (v2) (v3) (v4) (v5) (v6) (v7) (v8) (v9) (v10) (v11) (v12) (v13) (v14) (v15) (v16) (v22) (v23) (v24) (v25) (v26) (v27) (v28) (v29) (v30) (v31) (v32) (v33) (v34) (v35) (v36) (v37) (v38) (v39) (v40) (v41) (v42) (v43) (v44) (w) (le) (ra) (rl) (qn) (f) (st) (i) (by first | with_reducible assumption | omega | with_reducible rfl) (by first | with_reducible assumption | omega | with_reducible rfl) (by first | with_reducible assumption | omega | with_reducible rfl) (by first | with_reducible assumption | omega | with_reducible rfl)) (lw_V q2344 q2346 qs99 q124 q2347) (by decide +kernel) rfl ⟨Nat.le_of_ble_eq_true rfl, Nat.le_of_ble_eq_true rfl⟩ hl.1 (hP.sub [0, 1] rfl) 0 rfl rfl rfl (Nat.le_of_ble_eq_true rfl) dX9_clusters_14 (Nat.zero_le _) (Nat.zero_le _) ?_
        refine z_iconst C dX9_clusters_17 ?_
        refine lv_iload_n hx hb dX9_clusters_18 rfl (lv_at hl 2 rfl) ?_
        refine z_ishl1 C (i) rfl rfl (by omega) dX9_clusters_19 ?_
        refine z_iconst C dX9_clusters_20 ?_
        refine z_isubN C ((2 ^ i)) (1) rfl rfl (Nat.two_pow_pos i) dX9_clusters_21 ?_
        refine z_iand C (mcl w le (rgOf ra rl) st i) (((2 ^ i) - 1)) rfl rfl dX9_clusters_22 ?_
        refine z_if_ne (tgt := 29) C ⟨by omega, by omega⟩ dX9_clusters_23 (by decide) (fun c_23 => ?_) (fun c_23 => ?_)
        · refine lv_iinc (v := zI ((i + 1 : Nat) : Int)) (lv' := [(2, .int (zI ((i + 1 : Nat) : Int))), (0, .ref (a)), (1, .int (zI ((nn : Nat) : Int)))]) hx hb dX9_clusters_29 hl (k := 2) rfl (zI_inc (by omega)) (by decide) rfl (fun ls hl => ?_)
          refine lv_goto (tgt := 4) hx hb dX9_clusters_32 (by decide) ?_
          exact ih4 (i + 1) (nn) (by first | with_reducible assumption | omega | with_reducible rfl) (by first | rw [cntN_t (by simp only [decide_eq_true_eq]; omega), hs] | rw [cntN_f (by simp only [decide_eq_false_iff_not]; omega), hs]) (by first | with_reducible assumption | omega | with_reducible rfl) (by omega) ls (lv_sub hl [1, 2, 0] rfl)
        · refine lv_iinc (v := zI ((nn + 1 : Nat) : Int)) (lv' := [(1, .int (zI ((nn + 1 : Nat) : Int))), (0, .ref (a)), (2, .int (zI ((i : Nat) : Int)))]) hx hb dX9_clusters_26 hl (k := 1) rfl (zI_inc (by omega)) (by decide) rfl (fun ls hl => ?_)
          refine lv_iinc (v := zI ((i + 1 : Nat) : Int)) (lv' := [(2, .int (zI ((i + 1 : Nat) : Int))), (1, .int (zI ((nn + 1 : Nat) : Int))), (0, .ref (a))]) hx hb dX9_clusters_29 hl (k := 2) rfl (zI_inc (by omega)) (by decide) rfl (fun ls hl => ?_)
          refine lv_goto (tgt := 4) hx hb dX9_clusters_32 (by decide) ?_
          exact ih4 (i + 1) (nn + 1) (by first | with_reducible assumption | omega | with_reducible rfl) (by first | rw [cntN_t (by simp only [decide_eq_true_eq]; omega), hs] | rw [cntN_f (by simp only [decide_eq_false_iff_not]; omega), hs]) (by first | with_reducible assumption | omega | with_reducible rfl) (by omega) ls (lv_sub hl [2, 1, 0] rfl)
  exact L4 ((w * le - 0) + 1) (0) (0) (by first | with_reducible assumption | omega | with_reducible rfl) rfl (by first | with_reducible assumption | omega | with_reducible rfl) (by omega) ls (lv_sub hl [2, 1, 0] rfl)
set_option maxHeartbeats 600000 in
set_option maxRecDepth 100000 in
theorem k_X9_greatest (l : Launch) (D : va_G) (dA : Nat → ClassId) (a : Nat) (v0 v1 v2 v3 v4 v5 v6 v7 v8 v9 v10 v11 v12 v13 v14 v15 v16 v22 v23 v24 v25 v26 v27 v28 v29 v30 v31 v32 v33 v34 v35 v36 v37 v38 v39 v40 v41 v42 v43 v44 : Value) (w le : Nat) (ra rl : Bool) (qn : Nat) (f : Nat → Int) (st : Nat) (hwl : w * le ≤ 16) (hst : st < 2147483648) (h64 : f 64 = (st : Int)) : zM l yX9_greatest cX9_greatest 3 (some .int) (zRm 3 74) D dA [.ref (a)] [(a, .inr (9, [v0, v1, v2, v3, v4, v5, v6, v7, v8, v9, v10, v11, v12, v13, v14, v15, v16, .int (zI ((w : Nat) : Int)), .int (zI ((le : Nat) : Int)), .int (zB (ra)), .int (zB (rl)), .ref (qn), v22, v23, v24, v25, v26, v27, v28, v29, v30, v31, v32, v33, v34, v35, v36, v37, v38, v39, v40, v41, v42, v43, v44])), (qn, .inl (dA 3, 66, .inl (fun jz => zI (f jz))))] (some (.int (zI ((mxN (fun k => pop (mcl w le (rgOf ra rl) st k)) (w * le) : Nat) : Int)))) := by
  refine zM.of (by decide +kernel) rfl ?_
  intro pp ee ss mm args below meth cd Q C hr hlk hQ hP ls hl
  have hx := C.1.1
  have hb := C.1.2.1
  have hl : lv_has ls 3 [(0, .ref (a))] := hl
  refine z_iconst C dX9_greatest_0 ?_
  refine lv_istore_n (lv' := [(1, .int (zI 0)), (0, .ref (a))]) hx hb dX9_greatest_1 rfl hl (by decide) rfl (fun ls hl => ?_)
  refine z_iconst C dX9_greatest_2 ?_
  refine lv_istore_n (lv' := [(2, .int (zI 0)), (1, .int (zI 0)), (0, .ref (a))]) hx hb dX9_greatest_3 rfl hl (by decide) rfl (fun ls hl => ?_)
  have L4 : ∀ (N : Nat) (i nn : Nat), (i ≤ w * le) → (nn = mxN (fun k => pop (mcl w le (rgOf ra rl) st k)) i) → (nn ≤ 32) → (w * le - i) < N → ∀ ls : Array Slot, lv_has ls 3 [(0, .ref (a)), (1, .int (zI ((nn : Nat) : Int))), (2, .int (zI ((i : Nat) : Int)))] → W pp l ee (zRm 3 74) ss mm args below meth cd ss.heap [] 0 0 Q (F0 mm 4 ls []) := by
    intro N
    induction N with
    | zero => intro i nn _ _ _ hm; exact absurd hm (Nat.not_lt_zero _)
    | succ N ih4 =>
      intro i nn hi hs hni hmz4 ls hl
      refine lv_iload_n hx hb dX9_greatest_4 rfl (lv_at hl 2 rfl) ?_
      refine lv_aload_n hx hb dX9_greatest_5 rfl (lv_at hl 0 rfl) ?_
      refine z_cV (n := 0) (As := []) (rest := [.int (zI ((i : Nat) : Int))]) C hP (k_X9_sites l D dA (a) (v0) (v1) (v2) (v3) (v4) (v5) (v6) (v7) (v8) (v9) (v10) (v11) (v12) (v13) (v14) (v15) (v16) (v22) (v23) (v24) (v25) (v26) (v27) (v28) (v29) (v30) (v31) (v32) (v33) (v34) (v35) (v36) (v37) (v38) (v39) (v40) (v41) (v42) (v43) (v44) (w) (le) (ra) (rl) (qn)) (lw_V q2112 q2114 qs80 q124 q2115) (by decide +kernel) rfl ⟨Nat.le_of_ble_eq_true rfl, Nat.le_of_ble_eq_true rfl⟩ hl.1 (hP.sub [0] rfl) 0 rfl rfl rfl (Nat.le_of_ble_eq_true rfl) dX9_greatest_6 (Nat.zero_le _) (Nat.zero_le _) ?_
      refine z_icmp_ge (tgt := 39) C ⟨by omega, by omega⟩ ⟨by omega, by omega⟩ dX9_greatest_9 (by decide) (fun c_9 => ?_) (fun c_9 => ?_)
      · refine lv_iload_n hx hb dX9_greatest_39 rfl (lv_at hl 1 rfl) ?_
        exact z_iret C hlk hr hQ (by rw [show w * le = i by omega, hs]) dX9_greatest_40
      · have hm9 := mcl_lt (rg := rgOf ra rl) (st := st) hwl (show i < w * le by omega)
        have hp9 : pop (mcl w le (rgOf ra rl) st i) ≤ 32 := pcf_le 32 _
        refine lv_aload_n hx hb dX9_greatest_12 rfl (lv_at hl 0 rfl) ?_
        refine lv_iload_n hx hb dX9_greatest_13 rfl (lv_at hl 2 rfl) ?_
        refine z_cV (n := 1) (As := [.int (zI ((i : Nat) : Int))]) (rest := []) C hP (k_X9_clusterOf l D dA (a) (v0) (v1) (v2) (v3) (v4) (v5) (v6) (v7) (v8) (v9) (v10) (v11) (v12) (v13) (v14) (v15) (v16) (v22) (v23) (v24) (v25) (v26) (v27) (v28) (v29) (v30) (v31) (v32) (v33) (v34) (v35) (v36) (v37) (v38) (v39) (v40) (v41) (v42) (v43) (v44) (w) (le) (ra) (rl) (qn) (f) (st) (i) (by first | with_reducible assumption | omega | with_reducible rfl) (by first | with_reducible assumption | omega | with_reducible rfl) (by first | with_reducible assumption | omega | with_reducible rfl) (by first | with_reducible assumption | omega | with_reducible rfl)) (lw_V q2344 q2346 qs99 q124 q2347) (by decide +kernel) rfl ⟨Nat.le_of_ble_eq_true rfl, Nat.le_of_ble_eq_true rfl⟩ hl.1 (hP.sub [0, 1] rfl) 0 rfl rfl rfl (Nat.le_of_ble_eq_true rfl) dX9_greatest_14 (Nat.zero_le _) (Nat.zero_le _) ?_
        refine z_cS (n := 1) (As := [.int (zI ((mcl w le (rgOf ra rl) st i : Nat) : Int))]) (rest := []) C (k_X9_bitsOf l D dA (mcl w le (rgOf ra rl) st i) (by first | with_reducible assumption | omega | with_reducible rfl)) (lw_S q2232 q2233 q124 q2234) (by decide +kernel) rfl ⟨Nat.le_of_ble_eq_true rfl, Nat.le_of_ble_eq_true rfl⟩ hl.1 (hP.sub [] rfl) rfl (Nat.le_of_ble_eq_true rfl) dX9_greatest_17 (Nat.zero_le _) (Nat.zero_le _) ?_
        refine lv_iload_n hx hb dX9_greatest_20 rfl (lv_at hl 1 rfl) ?_
        refine z_icmp_le (tgt := 33) C ⟨by omega, by omega⟩ ⟨by omega, by omega⟩ dX9_greatest_21 (by decide) (fun c_21 => ?_) (fun c_21 => ?_)
        · refine lv_iinc (v := zI ((i + 1 : Nat) : Int)) (lv' := [(2, .int (zI ((i + 1 : Nat) : Int))), (0, .ref (a)), (1, .int (zI ((nn : Nat) : Int)))]) hx hb dX9_greatest_33 hl (k := 2) rfl (zI_inc (by omega)) (by decide) rfl (fun ls hl => ?_)
          refine lv_goto (tgt := 4) hx hb dX9_greatest_36 (by decide) ?_
          exact ih4 (i + 1) (nn) (by first | with_reducible assumption | omega | with_reducible rfl) (by simp only [mxN]; rw [← hs]; first | (rw [if_neg (by omega)]; done) | (rw [if_pos (by omega)]; done)) (by first | with_reducible assumption | omega | with_reducible rfl) (by omega) ls (lv_sub hl [1, 2, 0] rfl)
        · refine lv_aload_n hx hb dX9_greatest_24 rfl (lv_at hl 0 rfl) ?_
          refine lv_iload_n hx hb dX9_greatest_25 rfl (lv_at hl 2 rfl) ?_
          refine z_cV (n := 1) (As := [.int (zI ((i : Nat) : Int))]) (rest := []) C hP (k_X9_clusterOf l D dA (a) (v0) (v1) (v2) (v3) (v4) (v5) (v6) (v7) (v8) (v9) (v10) (v11) (v12) (v13) (v14) (v15) (v16) (v22) (v23) (v24) (v25) (v26) (v27) (v28) (v29) (v30) (v31) (v32) (v33) (v34) (v35) (v36) (v37) (v38) (v39) (v40) (v41) (v42) (v43) (v44) (w) (le) (ra) (rl) (qn) (f) (st) (i) (by first | with_reducible assumption | omega | with_reducible rfl) (by first | with_reducible assumption | omega | with_reducible rfl) (by first | with_reducible assumption | omega | with_reducible rfl) (by first | with_reducible assumption | omega | with_reducible rfl)) (lw_V q2344 q2346 qs99 q124 q2347) (by decide +kernel) rfl ⟨Nat.le_of_ble_eq_true rfl, Nat.le_of_ble_eq_true rfl⟩ hl.1 (hP.sub [0, 1] rfl) 0 rfl rfl rfl (Nat.le_of_ble_eq_true rfl) dX9_greatest_26 (Nat.zero_le _) (Nat.zero_le _) ?_
          refine z_cS (n := 1) (As := [.int (zI ((mcl w le (rgOf ra rl) st i : Nat) : Int))]) (rest := []) C (k_X9_bitsOf l D dA (mcl w le (rgOf ra rl) st i) (by first | with_reducible assumption | omega | with_reducible rfl)) (lw_S q2232 q2233 q124 q2234) (by decide +kernel) rfl ⟨Nat.le_of_ble_eq_true rfl, Nat.le_of_ble_eq_true rfl⟩ hl.1 (hP.sub [] rfl) rfl (Nat.le_of_ble_eq_true rfl) dX9_greatest_29 (Nat.zero_le _) (Nat.zero_le _) ?_
          refine lv_istore_n (lv' := [(1, .int (zI ((pop (mcl w le (rgOf ra rl) st i) : Nat) : Int))), (0, .ref (a)), (2, .int (zI ((i : Nat) : Int)))]) hx hb dX9_greatest_32 rfl hl (by decide) rfl (fun ls hl => ?_)
          refine lv_iinc (v := zI ((i + 1 : Nat) : Int)) (lv' := [(2, .int (zI ((i + 1 : Nat) : Int))), (1, .int (zI ((pop (mcl w le (rgOf ra rl) st i) : Nat) : Int))), (0, .ref (a))]) hx hb dX9_greatest_33 hl (k := 2) rfl (zI_inc (by omega)) (by decide) rfl (fun ls hl => ?_)
          refine lv_goto (tgt := 4) hx hb dX9_greatest_36 (by decide) ?_
          exact ih4 (i + 1) (pop (mcl w le (rgOf ra rl) st i)) (by first | with_reducible assumption | omega | with_reducible rfl) (by simp only [mxN]; rw [← hs]; first | (rw [if_neg (by omega)]; done) | (rw [if_pos (by omega)]; done)) (by first | with_reducible assumption | omega | with_reducible rfl) (by omega) ls (lv_sub hl [2, 1, 0] rfl)
  exact L4 ((w * le - 0) + 1) (0) (0) (by first | with_reducible assumption | omega | with_reducible rfl) rfl (by first | with_reducible assumption | omega | with_reducible rfl) (by omega) ls (lv_sub hl [2, 1, 0] rfl)
set_option maxHeartbeats 600000 in
set_option maxRecDepth 100000 in
theorem k_X9_fewestBroken (l : Launch) (D : va_G) (dA : Nat → ClassId) (a : Nat) (v0 v1 v2 v3 v4 v5 v6 v7 v8 v9 v10 v11 v12 v13 v14 v15 v16 v22 v23 v24 v25 v26 v27 v28 v29 v30 v31 v32 v33 v34 v35 v36 v37 v38 v39 v40 v41 v42 v43 v44 : Value) (w le : Nat) (ra rl : Bool) (qn : Nat) (f : Nat → Int) (hwl : w * le ≤ 16) (bo : ∀ j, -1000000 ≤ f j ∧ f j ≤ 1000000) : zM l yX9_fewestBroken cX9_fewestBroken 4 (some .int) (zRm 3 75) D dA [.ref (a)] [(a, .inr (9, [v0, v1, v2, v3, v4, v5, v6, v7, v8, v9, v10, v11, v12, v13, v14, v15, v16, .int (zI ((w : Nat) : Int)), .int (zI ((le : Nat) : Int)), .int (zB (ra)), .int (zB (rl)), .ref (qn), v22, v23, v24, v25, v26, v27, v28, v29, v30, v31, v32, v33, v34, v35, v36, v37, v38, v39, v40, v41, v42, v43, v44])), (qn, .inl (dA 3, 66, .inl (fun jz => zI (f jz))))] (some (.int (zI (if fwN (lawM w le f) (fun s => mbN w le (rgOf ra rl) f s (2 * (w * le))) (nst w le) < 0 then 0 else fwN (lawM w le f) (fun s => mbN w le (rgOf ra rl) f s (2 * (w * le))) (nst w le))))) := by
  refine zM.of (by decide +kernel) rfl ?_
  intro pp ee ss mm args below meth cd Q C hr hlk hQ hP ls hl
  have hx := C.1.1
  have hb := C.1.2.1
  have hl : lv_has ls 4 [(0, .ref (a))] := hl
  have hns : nst w le ≤ 65536 := nst_le hwl
  refine z_iconst C dX9_fewestBroken_0 ?_
  refine lv_istore_n (lv' := [(1, .int (zI (-1))), (0, .ref (a))]) hx hb dX9_fewestBroken_1 rfl hl (by decide) rfl (fun ls hl => ?_)
  refine z_iconst C dX9_fewestBroken_2 ?_
  refine lv_istore_n (lv' := [(2, .int (zI 0)), (1, .int (zI (-1))), (0, .ref (a))]) hx hb dX9_fewestBroken_3 rfl hl (by decide) rfl (fun ls hl => ?_)
  have L4 : ∀ (N : Nat) (i : Nat) (fw : Int), (i ≤ nst w le) → (fw = fwN (lawM w le f) (fun s => mbN w le (rgOf ra rl) f s (2 * (w * le))) i) → (-1 ≤ fw ∧ fw ≤ 1000) → (nst w le - i) < N → ∀ ls : Array Slot, lv_has ls 4 [(0, .ref (a)), (1, .int (zI (fw))), (2, .int (zI ((i : Nat) : Int)))] → W pp l ee (zRm 3 75) ss mm args below meth cd ss.heap [] 0 0 Q (F0 mm 4 ls []) := by
    intro N
    induction N with
    | zero => intro i fw _ _ _ hm; exact absurd hm (Nat.not_lt_zero _)
    | succ N ih4 =>
      intro i fw hi hs hfw hmz4 ls hl
      refine lv_iload_n hx hb dX9_fewestBroken_4 rfl (lv_at hl 2 rfl) ?_
      refine lv_aload_n hx hb dX9_fewestBroken_5 rfl (lv_at hl 0 rfl) ?_
      refine z_cV (n := 0) (As := []) (rest := [.int (zI ((i : Nat) : Int))]) C hP (k_X9_states l D dA (a) (v0) (v1) (v2) (v3) (v4) (v5) (v6) (v7) (v8) (v9) (v10) (v11) (v12) (v13) (v14) (v15) (v16) (v22) (v23) (v24) (v25) (v26) (v27) (v28) (v29) (v30) (v31) (v32) (v33) (v34) (v35) (v36) (v37) (v38) (v39) (v40) (v41) (v42) (v43) (v44) (w) (le) (ra) (rl) (qn) (by first | with_reducible assumption | omega | with_reducible rfl)) (lw_V q2171 q2173 qs85 q124 q2174) (by decide +kernel) rfl ⟨Nat.le_of_ble_eq_true rfl, Nat.le_of_ble_eq_true rfl⟩ hl.1 (hP.sub [0] rfl) 0 rfl rfl rfl (Nat.le_of_ble_eq_true rfl) dX9_fewestBroken_6 (Nat.zero_le _) (Nat.zero_le _) ?_
      refine z_icmp_ge (tgt := 46) C ⟨by omega, by omega⟩ ⟨by omega, by omega⟩ dX9_fewestBroken_9 (by decide) (fun c_9 => ?_) (fun c_9 => ?_)
      · refine lv_iload_n hx hb dX9_fewestBroken_46 rfl (lv_at hl 1 rfl) ?_
        refine z_if_ge (tgt := 54) C ⟨by omega, by omega⟩ dX9_fewestBroken_47 (by decide) (fun c_47 => ?_) (fun c_47 => ?_)
        · refine lv_iload_n hx hb dX9_fewestBroken_54 rfl (lv_at hl 1 rfl) ?_
          exact z_iret C hlk hr hQ (by rw [show nst w le = i by omega, ← hs]; first | (rw [if_neg (by omega)]; done) | (rw [if_pos (by omega)]; done)) dX9_fewestBroken_55
        · refine z_iconst C dX9_fewestBroken_50 ?_
          refine lv_goto (tgt := 55) hx hb dX9_fewestBroken_51 (by decide) ?_
          exact z_iret C hlk hr hQ (by rw [show nst w le = i by omega, ← hs]; first | (rw [if_neg (by omega)]; done) | (rw [if_pos (by omega)]; done)) dX9_fewestBroken_55
      · have h9 := mbN_le w le (rgOf ra rl) f i (2 * (w * le))
        refine lv_aload_n hx hb dX9_fewestBroken_12 rfl (lv_at hl 0 rfl) ?_
        refine lv_iload_n hx hb dX9_fewestBroken_13 rfl (lv_at hl 2 rfl) ?_
        refine z_cV (n := 1) (As := [.int (zI ((i : Nat) : Int))]) (rest := []) C hP (k_X9_isLawful l D dA (a) (v0) (v1) (v2) (v3) (v4) (v5) (v6) (v7) (v8) (v9) (v10) (v11) (v12) (v13) (v14) (v15) (v16) (v22) (v23) (v24) (v25) (v26) (v27) (v28) (v29) (v30) (v31) (v32) (v33) (v34) (v35) (v36) (v37) (v38) (v39) (v40) (v41) (v42) (v43) (v44) (w) (le) (ra) (rl) (qn) (f) (((i : Nat) : Int)) (by first | with_reducible assumption | omega | with_reducible rfl) (by first | with_reducible assumption | omega | with_reducible rfl) (by first | with_reducible assumption | omega | with_reducible rfl)) (lw_V q2175 q2177 qs86 q124 q2178) (by decide +kernel) rfl ⟨Nat.le_of_ble_eq_true rfl, Nat.le_of_ble_eq_true rfl⟩ hl.1 (hP.sub [0, 1] rfl) 0 rfl rfl rfl (Nat.le_of_ble_eq_true rfl) dX9_fewestBroken_14 (Nat.zero_le _) (Nat.zero_le _) ?_
        refine z_if_neB (tgt := 23) C dX9_fewestBroken_17 (by decide) (fun c_17 => ?_) (fun c_17 => ?_)
        · refine lv_aload_n hx hb dX9_fewestBroken_23 rfl (lv_at hl 0 rfl) ?_
          refine lv_iload_n hx hb dX9_fewestBroken_24 rfl (lv_at hl 2 rfl) ?_
          refine z_cV (n := 1) (As := [.int (zI ((i : Nat) : Int))]) (rest := []) C hP (k_X9_brokenOf l D dA (a) (v0) (v1) (v2) (v3) (v4) (v5) (v6) (v7) (v8) (v9) (v10) (v11) (v12) (v13) (v14) (v15) (v16) (v22) (v23) (v24) (v25) (v26) (v27) (v28) (v29) (v30) (v31) (v32) (v33) (v34) (v35) (v36) (v37) (v38) (v39) (v40) (v41) (v42) (v43) (v44) (w) (le) (ra) (rl) (qn) (f) (i) (by first | with_reducible assumption | omega | with_reducible rfl) (by first | with_reducible assumption | omega | with_reducible rfl) (by first | with_reducible assumption | omega | with_reducible rfl)) (lw_V q2243 q2245 qs94 q124 q2246) (by decide +kernel) rfl ⟨Nat.le_of_ble_eq_true rfl, Nat.le_of_ble_eq_true rfl⟩ hl.1 (hP.sub [0, 1] rfl) 0 rfl rfl rfl (Nat.le_of_ble_eq_true rfl) dX9_fewestBroken_25 (Nat.zero_le _) (Nat.zero_le _) ?_
          refine lv_istore_n (lv' := [(3, .int (zI ((mbN w le (rgOf ra rl) f i (2 * (w * le)) : Nat) : Int))), (0, .ref (a)), (1, .int (zI (fw))), (2, .int (zI ((i : Nat) : Int)))]) hx hb dX9_fewestBroken_28 rfl hl (by decide) rfl (fun ls hl => ?_)
          refine lv_iload_n hx hb dX9_fewestBroken_29 rfl (lv_at hl 2 rfl) ?_
          refine z_if_lt (tgt := 38) C ⟨by omega, by omega⟩ dX9_fewestBroken_30 (by decide) (fun c_30 => ?_) (fun c_30 => ?_)
          · refine lv_iload_n hx hb dX9_fewestBroken_38 rfl (lv_at hl 0 rfl) ?_
            refine lv_istore_n (lv' := [(1, .int (zI ((mbN w le (rgOf ra rl) f i (2 * (w * le)) : Nat) : Int))), (3, .int (zI ((mbN w le (rgOf ra rl) f i (2 * (w * le)) : Nat) : Int))), (0, .ref (a)), (2, .int (zI ((i : Nat) : Int)))]) hx hb dX9_fewestBroken_39 rfl hl (by decide) rfl (fun ls hl => ?_)
            refine lv_iinc (v := zI ((i + 1 : Nat) : Int)) (lv' := [(2, .int (zI ((i + 1 : Nat) : Int))), (1, .int (zI ((mbN w le (rgOf ra rl) f i (2 * (w * le)) : Nat) : Int))), (3, .int (zI ((mbN w le (rgOf ra rl) f i (2 * (w * le)) : Nat) : Int))), (0, .ref (a))]) hx hb dX9_fewestBroken_40 hl (k := 3) rfl (zI_inc (by omega)) (by decide) rfl (fun ls hl => ?_)
            refine lv_goto (tgt := 4) hx hb dX9_fewestBroken_43 (by decide) ?_
            exact ih4 (i + 1) (((mbN w le (rgOf ra rl) f i (2 * (w * le)) : Nat) : Int)) (by first | with_reducible assumption | omega | with_reducible rfl) (by rw [lawMZ_nat] at c_17; simp only [fwN]; rw [c_17, ← hs]; first | rfl | (rw [if_pos rfl, if_neg (by omega)]; done) | (rw [if_pos rfl, if_pos (by omega)]; done) | simp) (by first | exact hfw | omega) (by omega) ls (lv_sub hl [3, 1, 0] rfl)
          · refine lv_iload_n hx hb dX9_fewestBroken_33 rfl (lv_at hl 0 rfl) ?_
            refine lv_iload_n hx hb dX9_fewestBroken_34 rfl (lv_at hl 2 rfl) ?_
            refine z_icmp_ge (tgt := 40) C ⟨by omega, by omega⟩ ⟨by omega, by omega⟩ dX9_fewestBroken_35 (by decide) (fun c_35 => ?_) (fun c_35 => ?_)
            · refine lv_iinc (v := zI ((i + 1 : Nat) : Int)) (lv' := [(2, .int (zI ((i + 1 : Nat) : Int))), (3, .int (zI ((mbN w le (rgOf ra rl) f i (2 * (w * le)) : Nat) : Int))), (0, .ref (a)), (1, .int (zI (fw)))]) hx hb dX9_fewestBroken_40 hl (k := 3) rfl (zI_inc (by omega)) (by decide) rfl (fun ls hl => ?_)
              refine lv_goto (tgt := 4) hx hb dX9_fewestBroken_43 (by decide) ?_
              exact ih4 (i + 1) ((fw)) (by first | with_reducible assumption | omega | with_reducible rfl) (by rw [lawMZ_nat] at c_17; simp only [fwN]; rw [c_17, ← hs]; first | rfl | (rw [if_pos rfl, if_neg (by omega)]; done) | (rw [if_pos rfl, if_pos (by omega)]; done) | simp) (by first | exact hfw | omega) (by omega) ls (lv_sub hl [2, 3, 0] rfl)
            · refine lv_iload_n hx hb dX9_fewestBroken_38 rfl (lv_at hl 0 rfl) ?_
              refine lv_istore_n (lv' := [(1, .int (zI ((mbN w le (rgOf ra rl) f i (2 * (w * le)) : Nat) : Int))), (3, .int (zI ((mbN w le (rgOf ra rl) f i (2 * (w * le)) : Nat) : Int))), (0, .ref (a)), (2, .int (zI ((i : Nat) : Int)))]) hx hb dX9_fewestBroken_39 rfl hl (by decide) rfl (fun ls hl => ?_)
              refine lv_iinc (v := zI ((i + 1 : Nat) : Int)) (lv' := [(2, .int (zI ((i + 1 : Nat) : Int))), (1, .int (zI ((mbN w le (rgOf ra rl) f i (2 * (w * le)) : Nat) : Int))), (3, .int (zI ((mbN w le (rgOf ra rl) f i (2 * (w * le)) : Nat) : Int))), (0, .ref (a))]) hx hb dX9_fewestBroken_40 hl (k := 3) rfl (zI_inc (by omega)) (by decide) rfl (fun ls hl => ?_)
              refine lv_goto (tgt := 4) hx hb dX9_fewestBroken_43 (by decide) ?_
              exact ih4 (i + 1) (((mbN w le (rgOf ra rl) f i (2 * (w * le)) : Nat) : Int)) (by first | with_reducible assumption | omega | with_reducible rfl) (by rw [lawMZ_nat] at c_17; simp only [fwN]; rw [c_17, ← hs]; first | rfl | (rw [if_pos rfl, if_neg (by omega)]; done) | (rw [if_pos rfl, if_pos (by omega)]; done) | simp) (by first | exact hfw | omega) (by omega) ls (lv_sub hl [3, 1, 0] rfl)
        · refine lv_goto (tgt := 40) hx hb dX9_fewestBroken_20 (by decide) ?_
          refine lv_iinc (v := zI ((i + 1 : Nat) : Int)) (lv' := [(2, .int (zI ((i + 1 : Nat) : Int))), (0, .ref (a)), (1, .int (zI (fw)))]) hx hb dX9_fewestBroken_40 hl (k := 2) rfl (zI_inc (by omega)) (by decide) rfl (fun ls hl => ?_)
          refine lv_goto (tgt := 4) hx hb dX9_fewestBroken_43 (by decide) ?_
          exact ih4 (i + 1) ((fw)) (by first | with_reducible assumption | omega | with_reducible rfl) (by rw [lawMZ_nat] at c_17; simp only [fwN]; rw [c_17, ← hs]; first | rfl | (rw [if_pos rfl, if_neg (by omega)]; done) | (rw [if_pos rfl, if_pos (by omega)]; done) | simp) (by first | exact hfw | omega) (by omega) ls (lv_sub hl [1, 2, 0] rfl)
  exact L4 ((nst w le - 0) + 1) (0) ((-1)) (by first | with_reducible assumption | omega | with_reducible rfl) rfl (by first | with_reducible assumption | omega | with_reducible rfl) (by omega) ls (lv_sub hl [2, 1, 0] rfl)
set_option maxHeartbeats 600000 in
set_option maxRecDepth 100000 in
theorem k_X9_odds (l : Launch) (D : va_G) (dA : Nat → ClassId) (a : Nat) (v0 v1 v2 v3 v4 v5 v6 v7 v8 v9 v10 v11 v12 v13 v14 v15 v16 v22 v23 v24 v25 v26 v27 v28 v29 v30 v31 v32 v33 v34 v35 v36 v37 v38 v39 v40 v41 v42 v43 v44 : Value) (w le : Nat) (ra rl : Bool) (qn : Nat) (f : Nat → Int) (hwl : w * le ≤ 16) (b3 : ∀ j, j < 32 → -3 ≤ f j ∧ f j ≤ 3) : zM l yX9_odds cX9_odds 3 (some .int) (zRm 3 72) D dA [.ref (a)] [(a, .inr (9, [v0, v1, v2, v3, v4, v5, v6, v7, v8, v9, v10, v11, v12, v13, v14, v15, v16, .int (zI ((w : Nat) : Int)), .int (zI ((le : Nat) : Int)), .int (zB (ra)), .int (zB (rl)), .ref (qn), v22, v23, v24, v25, v26, v27, v28, v29, v30, v31, v32, v33, v34, v35, v36, v37, v38, v39, v40, v41, v42, v43, v44])), (qn, .inl (dA 3, 66, .inl (fun jz => zI (f jz))))] (some (.int (zI ((cntN (fun k => decide (sqr w le (rgOf ra rl) f (fun q => f (16 + q)) k = 1)) (w * le) : Nat) : Int)))) := by
  refine zM.of (by decide +kernel) rfl ?_
  intro pp ee ss mm args below meth cd Q C hr hlk hQ hP ls hl
  have hx := C.1.1
  have hb := C.1.2.1
  have hl : lv_has ls 3 [(0, .ref (a))] := hl
  refine z_iconst C dX9_odds_0 ?_
  refine lv_istore_n (lv' := [(1, .int (zI 0)), (0, .ref (a))]) hx hb dX9_odds_1 rfl hl (by decide) rfl (fun ls hl => ?_)
  refine z_iconst C dX9_odds_2 ?_
  refine lv_istore_n (lv' := [(2, .int (zI 0)), (1, .int (zI 0)), (0, .ref (a))]) hx hb dX9_odds_3 rfl hl (by decide) rfl (fun ls hl => ?_)
  have L4 : ∀ (N : Nat) (i nn : Nat), (i ≤ w * le) → (nn = cntN (fun k => decide (sqr w le (rgOf ra rl) f (fun q => f (16 + q)) k = 1)) i) → (nn ≤ i) → (w * le - i) < N → ∀ ls : Array Slot, lv_has ls 3 [(0, .ref (a)), (1, .int (zI ((nn : Nat) : Int))), (2, .int (zI ((i : Nat) : Int)))] → W pp l ee (zRm 3 72) ss mm args below meth cd ss.heap [] 0 0 Q (F0 mm 4 ls []) := by
    intro N
    induction N with
    | zero => intro i nn _ _ _ hm; exact absurd hm (Nat.not_lt_zero _)
    | succ N ih4 =>
      intro i nn hi hs hni hmz4 ls hl
      refine lv_iload_n hx hb dX9_odds_4 rfl (lv_at hl 2 rfl) ?_
      refine lv_aload_n hx hb dX9_odds_5 rfl (lv_at hl 0 rfl) ?_
      refine z_cV (n := 0) (As := []) (rest := [.int (zI ((i : Nat) : Int))]) C hP (k_X9_sites l D dA (a) (v0) (v1) (v2) (v3) (v4) (v5) (v6) (v7) (v8) (v9) (v10) (v11) (v12) (v13) (v14) (v15) (v16) (v22) (v23) (v24) (v25) (v26) (v27) (v28) (v29) (v30) (v31) (v32) (v33) (v34) (v35) (v36) (v37) (v38) (v39) (v40) (v41) (v42) (v43) (v44) (w) (le) (ra) (rl) (qn)) (lw_V q2112 q2114 qs80 q124 q2115) (by decide +kernel) rfl ⟨Nat.le_of_ble_eq_true rfl, Nat.le_of_ble_eq_true rfl⟩ hl.1 (hP.sub [0] rfl) 0 rfl rfl rfl (Nat.le_of_ble_eq_true rfl) dX9_odds_6 (Nat.zero_le _) (Nat.zero_le _) ?_
      refine z_icmp_ge (tgt := 30) C ⟨by omega, by omega⟩ ⟨by omega, by omega⟩ dX9_odds_9 (by decide) (fun c_9 => ?_) (fun c_9 => ?_)
      · refine lv_iload_n hx hb dX9_odds_30 rfl (lv_at hl 1 rfl) ?_
        exact z_iret C hlk hr hQ (by rw [show w * le = i by omega, hs]) dX9_odds_31
      · have hq9 : -2 ≤ sqr w le (rgOf ra rl) f (fun q => f (16 + q)) i ∧ sqr w le (rgOf ra rl) f (fun q => f (16 + q)) i ≤ 1 := by unfold sqr; repeat (first | split | omega)
        refine lv_aload_n hx hb dX9_odds_12 rfl (lv_at hl 0 rfl) ?_
        refine lv_iload_n hx hb dX9_odds_13 rfl (lv_at hl 2 rfl) ?_
        refine z_cV (n := 1) (As := [.int (zI ((i : Nat) : Int))]) (rest := []) C hP (k_X9_oddOf l D dA (a) (v0) (v1) (v2) (v3) (v4) (v5) (v6) (v7) (v8) (v9) (v10) (v11) (v12) (v13) (v14) (v15) (v16) (v22) (v23) (v24) (v25) (v26) (v27) (v28) (v29) (v30) (v31) (v32) (v33) (v34) (v35) (v36) (v37) (v38) (v39) (v40) (v41) (v42) (v43) (v44) (w) (le) (ra) (rl) (qn) (f) (i) (by first | with_reducible assumption | omega | with_reducible rfl) (by first | with_reducible assumption | omega | with_reducible rfl) (by first | with_reducible assumption | omega | with_reducible rfl)) (lw_V q2336 q2338 qs98 q124 q2339) (by decide +kernel) rfl ⟨Nat.le_of_ble_eq_true rfl, Nat.le_of_ble_eq_true rfl⟩ hl.1 (hP.sub [0, 1] rfl) 0 rfl rfl rfl (Nat.le_of_ble_eq_true rfl) dX9_odds_14 (Nat.zero_le _) (Nat.zero_le _) ?_
        refine z_iconst C dX9_odds_17 ?_
        refine z_icmp_ne (tgt := 24) C ⟨by omega, by omega⟩ ⟨by decide, by decide⟩ dX9_odds_18 (by decide) (fun c_18 => ?_) (fun c_18 => ?_)
        · refine lv_iinc (v := zI ((i + 1 : Nat) : Int)) (lv' := [(2, .int (zI ((i + 1 : Nat) : Int))), (0, .ref (a)), (1, .int (zI ((nn : Nat) : Int)))]) hx hb dX9_odds_24 hl (k := 2) rfl (zI_inc (by omega)) (by decide) rfl (fun ls hl => ?_)
          refine lv_goto (tgt := 4) hx hb dX9_odds_27 (by decide) ?_
          exact ih4 (i + 1) (nn) (by first | with_reducible assumption | omega | with_reducible rfl) (by first | rw [cntN_t (by simp only [decide_eq_true_eq]; omega), hs] | rw [cntN_f (by simp only [decide_eq_false_iff_not]; omega), hs]) (by first | with_reducible assumption | omega | with_reducible rfl) (by omega) ls (lv_sub hl [1, 2, 0] rfl)
        · refine lv_iinc (v := zI ((nn + 1 : Nat) : Int)) (lv' := [(1, .int (zI ((nn + 1 : Nat) : Int))), (0, .ref (a)), (2, .int (zI ((i : Nat) : Int)))]) hx hb dX9_odds_21 hl (k := 1) rfl (zI_inc (by omega)) (by decide) rfl (fun ls hl => ?_)
          refine lv_iinc (v := zI ((i + 1 : Nat) : Int)) (lv' := [(2, .int (zI ((i + 1 : Nat) : Int))), (1, .int (zI ((nn + 1 : Nat) : Int))), (0, .ref (a))]) hx hb dX9_odds_24 hl (k := 2) rfl (zI_inc (by omega)) (by decide) rfl (fun ls hl => ?_)
          refine lv_goto (tgt := 4) hx hb dX9_odds_27 (by decide) ?_
          exact ih4 (i + 1) (nn + 1) (by first | with_reducible assumption | omega | with_reducible rfl) (by first | rw [cntN_t (by simp only [decide_eq_true_eq]; omega), hs] | rw [cntN_f (by simp only [decide_eq_false_iff_not]; omega), hs]) (by first | with_reducible assumption | omega | with_reducible rfl) (by omega) ls (lv_sub hl [2, 1, 0] rfl)
  exact L4 ((w * le - 0) + 1) (0) (0) (by first | with_reducible assumption | omega | with_reducible rfl) rfl (by first | with_reducible assumption | omega | with_reducible rfl) (by omega) ls (lv_sub hl [2, 1, 0] rfl)
