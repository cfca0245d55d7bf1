set_option maxHeartbeats 600000 in
set_option maxRecDepth 100000 in
theorem k_X9_value (l : Launch) (D : va_G) (dA : Nat → ClassId) (a : Nat) (v0 v1 v2 v3 v4 v5 v6 v7 v8 v9 v10 v11 v12 v13 v14 v15 v16 v22 v23 v24 v25 v26 v37 v38 v39 v40 v41 v42 v43 v44 : Value) (w le lv es un qn qe qm qv qr qh qi : Nat) (ra rl kn : Bool) (nw eo lm la : Nat → Int) (x : Int) (hwl : w * le ≤ 16) (hle : le ≤ 16) (b3 : ∀ j, j < 48 → -3 ≤ nw j ∧ nw j ≤ 3) (bo : ∀ j, -1000000 ≤ nw j ∧ nw j ≤ 1000000) (be : ∀ j, -100000 ≤ eo j ∧ eo j ≤ 100000) (hkn : kn = true → KnP w le (rgOf ra rl) nw eo lm lv la) (hxx : 0 ≤ x ∧ x ≤ 1000002) (hpos : 0 < Lmany w le (rgOf ra rl) nw) : zG (S := (Nat → Int) × (Nat → Int) × (Nat → Int) × Nat × Bool) l yX9_value cX9_value 8 (some .int) (zRmW 4 96 0 0) D dA [.ref (a), .int (zI (x))] [(a, .inr (9, [v0, v1, v2, v3, v4, v5, v6, v7, v8, v9, v10, v11, v12, v13, v14, v15, v16, .int (zI ((w : Nat) : Int)), .int (zI ((le : Nat) : Int)), .int (zB (ra)), .int (zB (rl)), .ref (qn), v22, v23, v24, v25, v26, .ref (qr), .int (zI ((es : Nat) : Int)), .int (zI ((un : Nat) : Int)), .ref (qh), .ref (qi), .int (zB (kn)), .ref (qe), .ref (qm), .int (zI ((lv : Nat) : Int)), .ref (qv), v37, v38, v39, v40, v41, v42, v43, v44])), (qn, .inl (dA 3, 66, .inl (fun jz => zI (nw jz)))), (qe, .inl (dA 3, 65536, .inl (fun jz => zI (eo jz)))), (qm, .inl (dA 3, 301, .inl (fun jz => zI (lm jz)))), (qv, .inl (dA 3, 301, .inl (fun jz => zI (la jz))))] (fun u : (Nat → Int) × (Nat → Int) × (Nat → Int) × Nat × Bool => some (.int (zI ((vlN (Lp w le (rgOf ra rl) nw) (Lc w le (rgOf ra rl) nw) x (150 + Lat w le (rgOf ra rl) nw 0).toNat (301 - (150 + Lat w le (rgOf ra rl) nw 0).toNat)).1)))) (fun u : (Nat → Int) × (Nat → Int) × (Nat → Int) × Nat × Bool => (u.2.2.2.2 = true → KnP w le (rgOf ra rl) nw u.1 u.2.1 u.2.2.2.1 u.2.2.1) ∧ ∀ j, -100000 ≤ u.1 j ∧ u.1 j ≤ 100000) (fun u : (Nat → Int) × (Nat → Int) × (Nat → Int) × Nat × Bool => [(a, .inr (9, [v0, v1, v2, v3, v4, v5, v6, v7, v8, v9, v10, v11, v12, v13, v14, v15, v16, .int (zI ((w : Nat) : Int)), .int (zI ((le : Nat) : Int)), .int (zB (ra)), .int (zB (rl)), .ref (qn), v22, v23, v24, v25, v26, .ref (qr), .int (zI ((es : Nat) : Int)), .int (zI ((un : Nat) : Int)), .ref (qh), .ref (qi), .int (zB (u.2.2.2.2)), .ref (qe), .ref (qm), .int (zI ((u.2.2.2.1 : Nat) : Int)), .ref (qv), v37, v38, v39, v40, v41, v42, v43, v44])), (qn, .inl (dA 3, 66, .inl (fun jz => zI (nw jz)))), (qe, .inl (dA 3, 65536, .inl (fun jz => zI (u.1 jz)))), (qm, .inl (dA 3, 301, .inl (fun jz => zI (u.2.1 jz)))), (qv, .inl (dA 3, 301, .inl (fun jz => zI (u.2.2.1 jz))))]) := by
  refine zG.of (by decide +kernel) rfl ?_
  intro pp ee ss mm args below meth cd Q A C hr hlk hQ hA hin H locs hP hD hS ls hl
  have hx := C.1.1
  have hb := C.1.2.1
  have hl : lv_has ls 8 [(0, .ref (a)), (1, .int (zI (x)))] := hl
  have hns : nst w le ≤ 65536 := nst_le hwl
  refine lv_iload_n hx hb dX9_value_0 rfl (lv_at hl 1 rfl) ?_
  refine z_iconst C dX9_value_1 ?_
  refine z_ldcw C (1000002) q2269 rfl dX9_value_2 ?_
  refine z_cS (n := 3) (As := [.int (zI (x)), .int (zI 0), .int (zI 1000002)]) (rest := []) C (k_X9_in l D dA ((x)) (0) (1000002) (by first | with_reducible assumption | omega | with_reducible rfl) (by first | with_reducible assumption | omega | with_reducible rfl) (by first | with_reducible assumption | omega | with_reducible rfl)) (lw_S q2090 q2091 q124 q2092) (by decide +kernel) rfl ⟨Nat.le_of_ble_eq_true rfl, Nat.le_of_ble_eq_true rfl⟩ hl.1 (hP.sub [] rfl) rfl (Nat.le_of_ble_eq_true rfl) dX9_value_5 (Nat.zero_le _) (Nat.zero_le _) ?_
  refine z_if_neB (tgt := 13) C dX9_value_8 (by decide) (fun c_8 => ?_) (fun c_8 => ?_)
  · have c_8 := of_decide_eq_true c_8
    refine lv_aload_n hx hb dX9_value_13 rfl (lv_at hl 0 rfl) ?_
    refine z_gV (n := 0) (As := []) (rest := []) (wc := [(a, .inr (9, [v0, v1, v2, v3, v4, v5, v6, v7, v8, v9, v10, v11, v12, v13, v14, v15, v16, .int (zI ((w : Nat) : Int)), .int (zI ((le : Nat) : Int)), .int (zB (ra)), .int (zB (rl)), .ref (qn), v22, v23, v24, v25, v26, .ref (qr), .int (zI ((es : Nat) : Int)), .int (zI ((un : Nat) : Int)), .ref (qh), .ref (qi), .int (zB (kn)), .ref (qe), .ref (qm), .int (zI ((lv : Nat) : Int)), .ref (qv), v37, v38, v39, v40, v41, v42, v43, v44])), (qn, .inl (dA 3, 66, .inl (fun jz => zI (nw jz)))), (qe, .inl (dA 3, 65536, .inl (fun jz => zI (eo jz)))), (qm, .inl (dA 3, 301, .inl (fun jz => zI (lm jz)))), (qv, .inl (dA 3, 301, .inl (fun jz => zI (la jz))))]) (wr := []) C hP hD hS hA [0, 1, 2, 3, 4] [] rfl rfl (by decide) (by decide) (by decide) (k_X9_knows l D dA (a) (v0) (v1) (v2) (v3) (v4) (v5) (v6) (v7) (v8) (v9) (v10) (v11) (v12) (v13) (v14) (v15) (v16) (v22) (v23) (v24) (v25) (v26) (v37) (v38) (v39) (v40) (v41) (v42) (v43) (v44) (w) (le) (lv) (es) (un) (qn) (qe) (qm) (qv) (qr) (qh) (qi) (ra) (rl) (kn) (nw) (eo) (lm) (la) (by first | with_reducible assumption | omega | with_reducible rfl) (by first | with_reducible assumption | omega | with_reducible rfl) (by first | with_reducible assumption | omega | with_reducible rfl) (by first | with_reducible assumption | omega | with_reducible rfl) (by first | with_reducible assumption | omega | with_reducible rfl) (by first | with_reducible assumption | omega | with_reducible rfl)) (lw_V q2167 q2169 qs84 q124 q2170) (by decide +kernel) rfl ⟨Nat.le_of_ble_eq_true rfl, Nat.le_of_ble_eq_true rfl⟩ hl.1 0 rfl rfl rfl (Nat.le_of_ble_eq_true rfl) dX9_value_14 (by decide) (by decide) (fun u_14 H locs hp_14 hP hD hS _ => ?_)
    obtain ⟨eo1_1, lm1_2, la1_3, lv1_4⟩ := u_14
    have hP := hP.sub (ws' := [(a, .inr (9, [v0, v1, v2, v3, v4, v5, v6, v7, v8, v9, v10, v11, v12, v13, v14, v15, v16, .int (zI ((w : Nat) : Int)), .int (zI ((le : Nat) : Int)), .int (zB (ra)), .int (zB (rl)), .ref (qn), v22, v23, v24, v25, v26, .ref (qr), .int (zI ((es : Nat) : Int)), .int (zI ((un : Nat) : Int)), .ref (qh), .ref (qi), .int (zB (true)), .ref (qe), .ref (qm), .int (zI ((lv1_4 : Nat) : Int)), .ref (qv), v37, v38, v39, v40, v41, v42, v43, v44])), (qn, .inl (dA 3, 66, .inl (fun jz => zI (nw jz)))), (qe, .inl (dA 3, 65536, .inl (fun jz => zI (eo1_1 jz)))), (qm, .inl (dA 3, 301, .inl (fun jz => zI (lm1_2 jz)))), (qv, .inl (dA 3, 301, .inl (fun jz => zI (la1_3 jz))))]) [0, 1, 2, 3, 4] rfl
    have hD := hD.sub (ws' := [(a, .inr (9, [v0, v1, v2, v3, v4, v5, v6, v7, v8, v9, v10, v11, v12, v13, v14, v15, v16, .int (zI ((w : Nat) : Int)), .int (zI ((le : Nat) : Int)), .int (zB (ra)), .int (zB (rl)), .ref (qn), v22, v23, v24, v25, v26, .ref (qr), .int (zI ((es : Nat) : Int)), .int (zI ((un : Nat) : Int)), .ref (qh), .ref (qi), .int (zB (true)), .ref (qe), .ref (qm), .int (zI ((lv1_4 : Nat) : Int)), .ref (qv), v37, v38, v39, v40, v41, v42, v43, v44])), (qn, .inl (dA 3, 66, .inl (fun jz => zI (nw jz)))), (qe, .inl (dA 3, 65536, .inl (fun jz => zI (eo1_1 jz)))), (qm, .inl (dA 3, 301, .inl (fun jz => zI (lm1_2 jz)))), (qv, .inl (dA 3, 301, .inl (fun jz => zI (la1_3 jz))))]) [0, 1, 2, 3, 4] (by decide) rfl
    have hp_14 : KnP w le (rgOf ra rl) nw eo1_1 lm1_2 lv1_4 la1_3 ∧ ∀ j, -100000 ≤ eo1_1 j ∧ eo1_1 j ≤ 100000 := hp_14
    refine W.widen (k := 0) (n := 0) (Nat.le_of_ble_eq_true rfl) (Nat.le_of_ble_eq_true rfl) ?_
    have lv9 := Kn_lv hp_14.1
    have lv8 := Lmany_le w le (rgOf ra rl) nw
    have l0 := Kn_la hp_14.1 hpos
    refine z_lconst0 C dX9_value_17 ?_
    refine lv_lstore_n (lv' := [(2, .long (lI (0))), (0, .ref (a)), (1, .int (zI (x)))]) hx hb dX9_value_18 rfl hl (by decide) rfl (fun ls hl => ?_)
    refine z_lconst1 C dX9_value_19 ?_
    refine lv_lstore (lv' := [(4, .long (lI (1))), (2, .long (lI (0))), (0, .ref (a)), (1, .int (zI (x)))]) hx hb dX9_value_20 hl (by decide) rfl (fun ls hl => ?_)
    refine z_iconst C dX9_value_22 ?_
    refine lv_istore (lv' := [(6, .int (zI 0)), (4, .long (lI (1))), (2, .long (lI (0))), (0, .ref (a)), (1, .int (zI (x)))]) hx hb dX9_value_23 hl (by decide) rfl (fun ls hl => ?_)
    refine lv_aload_n hx hb dX9_value_25 rfl (lv_at hl 3 rfl) ?_
    refine z_get C hP 0 rfl rfl in_X9 35 (by decide) q1919 rfl dX9_value_26 ?_
    refine z_if_ne (tgt := 36) C ⟨by omega, by omega⟩ dX9_value_29 (by decide) (fun c_29 => ?_) (fun c_29 => ?_)
    · refine lv_aload_n hx hb dX9_value_36 rfl (lv_at hl 3 rfl) ?_
      refine z_get C hP 0 rfl rfl in_X9 36 (by decide) q1920 rfl dX9_value_37 ?_
      refine z_iconst C dX9_value_40 ?_
      refine z_iald C hP 4 rfl (0) rfl (by omega) (by decide) dX9_value_41 ?_
      rw [l0.1]
      refine lv_istore (lv' := [(7, .int (zI (Lat w le (rgOf ra rl) nw 0))), (6, .int (zI 0)), (4, .long (lI (1))), (2, .long (lI (0))), (0, .ref (a)), (1, .int (zI (x)))]) hx hb dX9_value_42 hl (by decide) rfl (fun ls hl => ?_)
      have L44 : ∀ (N : Nat) (t ri : Nat) (sm pw ev : Int), ((sm, pw) = vlN (Lp w le (rgOf ra rl) nw) (Lc w le (rgOf ra rl) nw) x (150 + Lat w le (rgOf ra rl) nw 0).toNat t) → (ri = cntN (Lp w le (rgOf ra rl) nw) ((150 + Lat w le (rgOf ra rl) nw 0).toNat + t)) → ((150 + Lat w le (rgOf ra rl) nw 0).toNat + t ≤ 301) → (ev = Lat w le (rgOf ra rl) nw 0 + t) → (301 - t) < N → ∀ (H : Heap) (locs : List Loc), va_P D vwCl [(a, .inr (9, [v0, v1, v2, v3, v4, v5, v6, v7, v8, v9, v10, v11, v12, v13, v14, v15, v16, .int (zI ((w : Nat) : Int)), .int (zI ((le : Nat) : Int)), .int (zB (ra)), .int (zB (rl)), .ref (qn), v22, v23, v24, v25, v26, .ref (qr), .int (zI ((es : Nat) : Int)), .int (zI ((un : Nat) : Int)), .ref (qh), .ref (qi), .int (zB (true)), .ref (qe), .ref (qm), .int (zI ((lv1_4 : Nat) : Int)), .ref (qv), v37, v38, v39, v40, v41, v42, v43, v44])), (qn, .inl (dA 3, 66, .inl (fun jz => zI (nw jz)))), (qe, .inl (dA 3, 65536, .inl (fun jz => zI (eo1_1 jz)))), (qm, .inl (dA 3, 301, .inl (fun jz => zI (lm1_2 jz)))), (qv, .inl (dA 3, 301, .inl (fun jz => zI (la1_3 jz))))] H → va_D A [(a, .inr (9, [v0, v1, v2, v3, v4, v5, v6, v7, v8, v9, v10, v11, v12, v13, v14, v15, v16, .int (zI ((w : Nat) : Int)), .int (zI ((le : Nat) : Int)), .int (zB (ra)), .int (zB (rl)), .ref (qn), v22, v23, v24, v25, v26, .ref (qr), .int (zI ((es : Nat) : Int)), .int (zI ((un : Nat) : Int)), .ref (qh), .ref (qi), .int (zB (true)), .ref (qe), .ref (qm), .int (zI ((lv1_4 : Nat) : Int)), .ref (qv), v37, v38, v39, v40, v41, v42, v43, v44])), (qn, .inl (dA 3, 66, .inl (fun jz => zI (nw jz)))), (qe, .inl (dA 3, 65536, .inl (fun jz => zI (eo1_1 jz)))), (qm, .inl (dA 3, 301, .inl (fun jz => zI (lm1_2 jz)))), (qv, .inl (dA 3, 301, .inl (fun jz => zI (la1_3 jz))))] → va_S A ss.heap H locs → ∀ ls : Array Slot, lv_has ls 8 [(0, .ref (a)), (1, .int (zI (x))), (2, .long (lI (sm))), (4, .long (lI (pw))), (6, .int (zI ((ri : Nat) : Int))), (7, .int (zI (ev)))] → W pp l ee (zRmW 4 96 0 0) ss mm args below meth cd H locs 0 0 Q (F0 mm 44 ls []) := by
        intro N
        induction N with
        | zero => intro t ri sm pw ev _ _ _ _ hm; exact absurd hm (Nat.not_lt_zero _)
        | succ N ih44 =>
          intro t ri sm pw ev hs hr9 ht hev hmz44 H locs hP hD hS ls hl
          have vb := vlN_b (Lp w le (rgOf ra rl) nw) (Lc w le (rgOf ra rl) nw) x (150 + Lat w le (rgOf ra rl) nw 0).toNat t
          rw [← hs] at vb
          have hrb : ri ≤ 301 := by rw [hr9]; exact Nat.le_trans (cntN_le _ _) ht
          refine lv_iload hx hb dX9_value_44 (lv_at hl 4 rfl) ?_
          refine lv_aload_n hx hb dX9_value_46 rfl (lv_at hl 0 rfl) ?_
          refine z_get C hP 0 rfl rfl in_X9 35 (by decide) q1919 rfl dX9_value_47 ?_
          refine z_icmp_ge (tgt := 107) C ⟨by omega, by omega⟩ ⟨by omega, by omega⟩ dX9_value_50 (by decide) (fun c_50 => ?_) (fun c_50 => ?_)
          · refine lv_lload_n hx hb dX9_value_107 rfl (lv_at hl 2 rfl) ?_
            refine z_l2i C dX9_value_108 ?_
            exact z_iretG C hlk hr hQ ⟨eo1_1, lm1_2, la1_3, lv1_4, true⟩ (by have h4 : ri ≤ Lmany w le (rgOf ra rl) nw := (by rw [hr9]; exact cntN_mono _ ht); have h5 := vlN_stop (g := Lc w le (rgOf ra rl) nw) (x := x) (cnt_last (i := (150 + Lat w le (rgOf ra rl) nw 0).toNat + t) (n := 301) (by rw [← hr9]; show ri = Lmany w le (rgOf ra rl) nw; omega)) (301 - (150 + Lat w le (rgOf ra rl) nw 0).toNat) (by omega) (by omega); rw [h5, ← hs]) ⟨fun _ => hp_14.1, hp_14.2⟩ (hP.sub [0, 1, 2, 3, 4] rfl) (hD.sub [0, 1, 2, 3, 4] (by decide) rfl) hS (Nat.le_of_ble_eq_true rfl) (Nat.le_of_ble_eq_true rfl) dX9_value_109
          · have l9 := Kn_la hp_14.1 (show ri < Lmany w le (rgOf ra rl) nw by omega)
            have ht3 : (150 + Lat w le (rgOf ra rl) nw 0).toNat + t < 301 := Nat.lt_of_le_of_ne ht (fun e9 => by rw [e9] at hr9; have h7 : ri = Lmany w le (rgOf ra rl) nw := hr9; omega)
            refine lv_iload hx hb dX9_value_53 (lv_at hl 5 rfl) ?_
            refine lv_aload_n hx hb dX9_value_55 rfl (lv_at hl 0 rfl) ?_
            refine z_get C hP 0 rfl rfl in_X9 36 (by decide) q1920 rfl dX9_value_56 ?_
            refine lv_iload hx hb dX9_value_59 (lv_at hl 4 rfl) ?_
            refine z_iald C hP 4 rfl (ri) rfl (by omega) (by decide) dX9_value_61 ?_
            rw [l9.1]
            refine z_icmp_ne (tgt := 90) C ⟨by omega, by omega⟩ ⟨by omega, by omega⟩ dX9_value_62 (by decide) (fun c_62 => ?_) (fun c_62 => ?_)
            · refine lv_lload hx hb dX9_value_90 (lv_at hl 3 rfl) ?_
              refine lv_iload_n hx hb dX9_value_92 rfl (lv_at hl 1 rfl) ?_
              refine z_i2l C ⟨by omega, by omega⟩ dX9_value_93 ?_
              refine z_lmul C dX9_value_94 ?_
              refine z_ldc2 C (1000003) q2270 rfl dX9_value_95 ?_
              have mn1 : 0 ≤ pw * x := Int.mul_nonneg vb.2.1 hxx.1
              have mn2 := mul3 (m := 1000003) (n := 1000003) (a := pw) (b := x) (by omega) (by omega)
              refine z_lrem C ⟨by omega, by omega⟩ ⟨by omega, by omega⟩ dX9_value_98 ?_
              refine lv_lstore (lv' := [(4, .long (lI (((pw) * ((x))) % (1000003)))), (0, .ref (a)), (1, .int (zI (x))), (2, .long (lI (sm))), (6, .int (zI ((ri : Nat) : Int))), (7, .int (zI (ev)))]) hx hb dX9_value_99 hl (by decide) rfl (fun ls hl => ?_)
              refine lv_iinc (v := zI ((ev) + (1))) (lv' := [(7, .int (zI ((ev) + (1)))), (4, .long (lI (((pw) * ((x))) % (1000003)))), (0, .ref (a)), (1, .int (zI (x))), (2, .long (lI (sm))), (6, .int (zI ((ri : Nat) : Int)))]) hx hb dX9_value_101 hl (k := 5) rfl (zI_inc (by omega)) (by decide) rfl (fun ls hl => ?_)
              refine lv_goto (tgt := 44) hx hb dX9_value_104 (by decide) ?_
              exact ih44 (t + 1) (ri) (sm) (((pw) * ((x))) % (1000003)) (((ev) + (1))) (by simp only [vlN]; rw [← hs]; dsimp only; first | rw [if_pos pt] | rw [if_neg (fun q => c_62 (by have h6 := Lat_of ht3 q hr9; omega))]) (by rw [show (150 + Lat w le (rgOf ra rl) nw 0).toNat + (t + 1) = (150 + Lat w le (rgOf ra rl) nw 0).toNat + t + 1 by omega]; first | rw [cntN_t pt, ← hr9] | rw [cntN_f (by cases q : Lp w le (rgOf ra rl) nw ((150 + Lat w le (rgOf ra rl) nw 0).toNat + t) with | false => rfl | true => exact absurd (by have h6 := Lat_of ht3 q hr9; omega) c_62), ← hr9]) (by first | with_reducible assumption | omega | with_reducible rfl) (by first | with_reducible assumption | omega | with_reducible rfl) (by omega) H locs hP hD hS ls (lv_sub hl [2, 3, 4, 1, 5, 0] rfl)
            · have pt : Lp w le (rgOf ra rl) nw ((150 + Lat w le (rgOf ra rl) nw 0).toNat + t) = true := by have h7 := l9.2.2.2; rw [show (150 + Lat w le (rgOf ra rl) nw ri).toNat = (150 + Lat w le (rgOf ra rl) nw 0).toNat + t by omega] at h7; unfold Lp; simp only [ne_eq, decide_eq_true_eq]; omega
              have lc7 := Lc_le w le (rgOf ra rl) nw ((150 + Lat w le (rgOf ra rl) nw 0).toNat + t)
              refine lv_lload_n hx hb dX9_value_65 rfl (lv_at hl 2 rfl) ?_
              refine lv_lload hx hb dX9_value_66 (lv_at hl 3 rfl) ?_
              refine lv_aload_n hx hb dX9_value_68 rfl (lv_at hl 0 rfl) ?_
              refine z_get C hP 0 rfl rfl in_X9 34 (by decide) q1918 rfl dX9_value_69 ?_
              refine z_sipush C dX9_value_72 rfl ?_
              refine lv_iload hx hb dX9_value_75 (lv_at hl 5 rfl) ?_
              refine z_iadd C dX9_value_77 ?_
              refine z_iald C hP 3 rfl ((150 + ev).toNat) (by omega) (by omega) (by decide) dX9_value_78 ?_
              rw [show (150 + ev).toNat = (150 + Lat w le (rgOf ra rl) nw 0).toNat + t by omega, Kn_lm hp_14.1 ht3]
              refine z_i2l C ⟨by omega, by omega⟩ dX9_value_79 ?_
              refine z_lmul C dX9_value_80 ?_
              refine z_ladd C dX9_value_81 ?_
              refine z_ldc2 C (1000003) q2270 rfl dX9_value_82 ?_
              have mn3 : 0 ≤ pw * ((Lc w le (rgOf ra rl) nw ((150 + Lat w le (rgOf ra rl) nw 0).toNat + t) : Nat) : Int) := Int.mul_nonneg vb.2.1 (by omega)
              have mn4 := mul3 (m := 1000003) (n := 65536) (a := pw) (b := ((Lc w le (rgOf ra rl) nw ((150 + Lat w le (rgOf ra rl) nw 0).toNat + t) : Nat) : Int)) (by omega) (by omega)
              refine z_lrem C ⟨by omega, by omega⟩ ⟨by omega, by omega⟩ dX9_value_85 ?_
              refine lv_lstore_n (lv' := [(2, .long (lI (((sm) + ((pw) * (((Lc w le (rgOf ra rl) nw ((150 + Lat w le (rgOf ra rl) nw 0).toNat + t) : Nat) : Int)))) % (1000003)))), (0, .ref (a)), (1, .int (zI (x))), (4, .long (lI (pw))), (6, .int (zI ((ri : Nat) : Int))), (7, .int (zI (ev)))]) hx hb dX9_value_86 rfl hl (by decide) rfl (fun ls hl => ?_)
              refine lv_iinc (v := zI ((ri + 1 : Nat) : Int)) (lv' := [(6, .int (zI ((ri + 1 : Nat) : Int))), (2, .long (lI (((sm) + ((pw) * (((Lc w le (rgOf ra rl) nw ((150 + Lat w le (rgOf ra rl) nw 0).toNat + t) : Nat) : Int)))) % (1000003)))), (0, .ref (a)), (1, .int (zI (x))), (4, .long (lI (pw))), (7, .int (zI (ev)))]) hx hb dX9_value_87 hl (k := 4) rfl (zI_inc (by omega)) (by decide) rfl (fun ls hl => ?_)
              refine lv_lload hx hb dX9_value_90 (lv_at hl 4 rfl) ?_
              refine lv_iload_n hx hb dX9_value_92 rfl (lv_at hl 3 rfl) ?_
              refine z_i2l C ⟨by omega, by omega⟩ dX9_value_93 ?_
              refine z_lmul C dX9_value_94 ?_
              refine z_ldc2 C (1000003) q2270 rfl dX9_value_95 ?_
              have mn1 : 0 ≤ pw * x := Int.mul_nonneg vb.2.1 hxx.1
              have mn2 := mul3 (m := 1000003) (n := 1000003) (a := pw) (b := x) (by omega) (by omega)
              refine z_lrem C ⟨by omega, by omega⟩ ⟨by omega, by omega⟩ dX9_value_98 ?_
              refine lv_lstore (lv' := [(4, .long (lI (((pw) * ((x))) % (1000003)))), (6, .int (zI ((ri + 1 : Nat) : Int))), (2, .long (lI (((sm) + ((pw) * (((Lc w le (rgOf ra rl) nw ((150 + Lat w le (rgOf ra rl) nw 0).toNat + t) : Nat) : Int)))) % (1000003)))), (0, .ref (a)), (1, .int (zI (x))), (7, .int (zI (ev)))]) hx hb dX9_value_99 hl (by decide) rfl (fun ls hl => ?_)
              refine lv_iinc (v := zI ((ev) + (1))) (lv' := [(7, .int (zI ((ev) + (1)))), (4, .long (lI (((pw) * ((x))) % (1000003)))), (6, .int (zI ((ri + 1 : Nat) : Int))), (2, .long (lI (((sm) + ((pw) * (((Lc w le (rgOf ra rl) nw ((150 + Lat w le (rgOf ra rl) nw 0).toNat + t) : Nat) : Int)))) % (1000003)))), (0, .ref (a)), (1, .int (zI (x)))]) hx hb dX9_value_101 hl (k := 5) rfl (zI_inc (by omega)) (by decide) rfl (fun ls hl => ?_)
              refine lv_goto (tgt := 44) hx hb dX9_value_104 (by decide) ?_
              exact ih44 (t + 1) (ri + 1) (((sm) + ((pw) * (((Lc w le (rgOf ra rl) nw ((150 + Lat w le (rgOf ra rl) nw 0).toNat + t) : Nat) : Int)))) % (1000003)) (((pw) * ((x))) % (1000003)) (((ev) + (1))) (by simp only [vlN]; rw [← hs]; dsimp only; first | rw [if_pos pt] | rw [if_neg (fun q => c_62 (by have h6 := Lat_of ht3 q hr9; omega))]) (by rw [show (150 + Lat w le (rgOf ra rl) nw 0).toNat + (t + 1) = (150 + Lat w le (rgOf ra rl) nw 0).toNat + t + 1 by omega]; first | rw [cntN_t pt, ← hr9] | rw [cntN_f (by cases q : Lp w le (rgOf ra rl) nw ((150 + Lat w le (rgOf ra rl) nw 0).toNat + t) with | false => rfl | true => exact absurd (by have h6 := Lat_of ht3 q hr9; omega) c_62), ← hr9]) (by first | with_reducible assumption | omega | with_reducible rfl) (by first | with_reducible assumption | omega | with_reducible rfl) (by omega) H locs hP hD hS ls (lv_sub hl [4, 5, 3, 1, 2, 0] rfl)
      exact L44 ((301 - 0) + 1) (0) (0) (0) (1) ((Lat w le (rgOf ra rl) nw 0)) rfl (by rw [Nat.add_zero, Lat_rank hpos]) (by first | with_reducible assumption | omega | with_reducible rfl) (by first | with_reducible assumption | omega | with_reducible rfl) (by omega) H locs hP hD hS ls (lv_sub hl [4, 5, 3, 2, 1, 0] rfl)
    · exact absurd c_29 (by omega)
  · have c_8 := of_decide_eq_false c_8; exact absurd c_8 (by omega)
set_option maxHeartbeats 600000 in
set_option maxRecDepth 100000 in
theorem k_X9_value_none (l : Launch) (D : va_G) (dA : Nat → ClassId) (a : Nat) (v0 v1 v2 v3 v4 v5 v6 v7 v8 v9 v10 v11 v12 v13 v14 v15 v16 v22 v23 v24 v25 v26 v37 v38 v39 v40 v41 v42 v43 v44 : Value) (w le lv es un qn qe qm qv qr qh qi : Nat) (ra rl kn : Bool) (nw eo lm la : Nat → Int) (x : Int) (hwl : w * le ≤ 16) (hle : le ≤ 16) (b3 : ∀ j, j < 48 → -3 ≤ nw j ∧ nw j ≤ 3) (bo : ∀ j, -1000000 ≤ nw j ∧ nw j ≤ 1000000) (be : ∀ j, -100000 ≤ eo j ∧ eo j ≤ 100000) (hkn : kn = true → KnP w le (rgOf ra rl) nw eo lm lv la) (hxx : 0 ≤ x ∧ x ≤ 1000002) (hno : Lmany w le (rgOf ra rl) nw = 0) : zG (S := (Nat → Int) × (Nat → Int) × (Nat → Int) × Nat × Bool) l yX9_value cX9_value 8 (some .int) (zRmW 4 96 0 0) D dA [.ref (a), .int (zI (x))] [(a, .inr (9, [v0, v1, v2, v3, v4, v5, v6, v7, v8, v9, v10, v11, v12, v13, v14, v15, v16, .int (zI ((w : Nat) : Int)), .int (zI ((le : Nat) : Int)), .int (zB (ra)), .int (zB (rl)), .ref (qn), v22, v23, v24, v25, v26, .ref (qr), .int (zI ((es : Nat) : Int)), .int (zI ((un : Nat) : Int)), .ref (qh), .ref (qi), .int (zB (kn)), .ref (qe), .ref (qm), .int (zI ((lv : Nat) : Int)), .ref (qv), v37, v38, v39, v40, v41, v42, v43, v44])), (qn, .inl (dA 3, 66, .inl (fun jz => zI (nw jz)))), (qe, .inl (dA 3, 65536, .inl (fun jz => zI (eo jz)))), (qm, .inl (dA 3, 301, .inl (fun jz => zI (lm jz)))), (qv, .inl (dA 3, 301, .inl (fun jz => zI (la jz))))] (fun u : (Nat → Int) × (Nat → Int) × (Nat → Int) × Nat × Bool => some (.int (zI (0)))) (fun u : (Nat → Int) × (Nat → Int) × (Nat → Int) × Nat × Bool => (u.2.2.2.2 = true → KnP w le (rgOf ra rl) nw u.1 u.2.1 u.2.2.2.1 u.2.2.1) ∧ ∀ j, -100000 ≤ u.1 j ∧ u.1 j ≤ 100000) (fun u : (Nat → Int) × (Nat → Int) × (Nat → Int) × Nat × Bool => [(a, .inr (9, [v0, v1, v2, v3, v4, v5, v6, v7, v8, v9, v10, v11, v12, v13, v14, v15, v16, .int (zI ((w : Nat) : Int)), .int (zI ((le : Nat) : Int)), .int (zB (ra)), .int (zB (rl)), .ref (qn), v22, v23, v24, v25, v26, .ref (qr), .int (zI ((es : Nat) : Int)), .int (zI ((un : Nat) : Int)), .ref (qh), .ref (qi), .int (zB (u.2.2.2.2)), .ref (qe), .ref (qm), .int (zI ((u.2.2.2.1 : Nat) : Int)), .ref (qv), v37, v38, v39, v40, v41, v42, v43, v44])), (qn, .inl (dA 3, 66, .inl (fun jz => zI (nw jz)))), (qe, .inl (dA 3, 65536, .inl (fun jz => zI (u.1 jz)))), (qm, .inl (dA 3, 301, .inl (fun jz => zI (u.2.1 jz)))), (qv, .inl (dA 3, 301, .inl (fun jz => zI (u.2.2.1 jz))))]) := by
  refine zG.of (by decide +kernel) rfl ?_
  intro pp ee ss mm args below meth cd Q A C hr hlk hQ hA hin H locs hP hD hS ls hl
  have hx := C.1.1
  have hb := C.1.2.1
  have hl : lv_has ls 8 [(0, .ref (a)), (1, .int (zI (x)))] := hl
  have hns : nst w le ≤ 65536 := nst_le hwl
  refine lv_iload_n hx hb dX9_value_0 rfl (lv_at hl 1 rfl) ?_
  refine z_iconst C dX9_value_1 ?_
  refine z_ldcw C (1000002) q2269 rfl dX9_value_2 ?_
  refine z_cS (n := 3) (As := [.int (zI (x)), .int (zI 0), .int (zI 1000002)]) (rest := []) C (k_X9_in l D dA ((x)) (0) (1000002) (by first | with_reducible assumption | omega | with_reducible rfl) (by first | with_reducible assumption | omega | with_reducible rfl) (by first | with_reducible assumption | omega | with_reducible rfl)) (lw_S q2090 q2091 q124 q2092) (by decide +kernel) rfl ⟨Nat.le_of_ble_eq_true rfl, Nat.le_of_ble_eq_true rfl⟩ hl.1 (hP.sub [] rfl) rfl (Nat.le_of_ble_eq_true rfl) dX9_value_5 (Nat.zero_le _) (Nat.zero_le _) ?_
  refine z_if_neB (tgt := 13) C dX9_value_8 (by decide) (fun c_8 => ?_) (fun c_8 => ?_)
  · have c_8 := of_decide_eq_true c_8
    refine lv_aload_n hx hb dX9_value_13 rfl (lv_at hl 0 rfl) ?_
    refine z_gV (n := 0) (As := []) (rest := []) (wc := [(a, .inr (9, [v0, v1, v2, v3, v4, v5, v6, v7, v8, v9, v10, v11, v12, v13, v14, v15, v16, .int (zI ((w : Nat) : Int)), .int (zI ((le : Nat) : Int)), .int (zB (ra)), .int (zB (rl)), .ref (qn), v22, v23, v24, v25, v26, .ref (qr), .int (zI ((es : Nat) : Int)), .int (zI ((un : Nat) : Int)), .ref (qh), .ref (qi), .int (zB (kn)), .ref (qe), .ref (qm), .int (zI ((lv : Nat) : Int)), .ref (qv), v37, v38, v39, v40, v41, v42, v43, v44])), (qn, .inl (dA 3, 66, .inl (fun jz => zI (nw jz)))), (qe, .inl (dA 3, 65536, .inl (fun jz => zI (eo jz)))), (qm, .inl (dA 3, 301, .inl (fun jz => zI (lm jz)))), (qv, .inl (dA 3, 301, .inl (fun jz => zI (la jz))))]) (wr := []) C hP hD hS hA [0, 1, 2, 3, 4] [] rfl rfl (by decide) (by decide) (by decide) (k_X9_knows l D dA (a) (v0) (v1) (v2) (v3) (v4) (v5) (v6) (v7) (v8) (v9) (v10) (v11) (v12) (v13) (v14) (v15) (v16) (v22) (v23) (v24) (v25) (v26) (v37) (v38) (v39) (v40) (v41) (v42) (v43) (v44) (w) (le) (lv) (es) (un) (qn) (qe) (qm) (qv) (qr) (qh) (qi) (ra) (rl) (kn) (nw) (eo) (lm) (la) (by first | with_reducible assumption | omega | with_reducible rfl) (by first | with_reducible assumption | omega | with_reducible rfl) (by first | with_reducible assumption | omega | with_reducible rfl) (by first | with_reducible assumption | omega | with_reducible rfl) (by first | with_reducible assumption | omega | with_reducible rfl) (by first | with_reducible assumption | omega | with_reducible rfl)) (lw_V q2167 q2169 qs84 q124 q2170) (by decide +kernel) rfl ⟨Nat.le_of_ble_eq_true rfl, Nat.le_of_ble_eq_true rfl⟩ hl.1 0 rfl rfl rfl (Nat.le_of_ble_eq_true rfl) dX9_value_14 (by decide) (by decide) (fun u_14 H locs hp_14 hP hD hS _ => ?_)
    obtain ⟨eo1_1, lm1_2, la1_3, lv1_4⟩ := u_14
    have hP := hP.sub (ws' := [(a, .inr (9, [v0, v1, v2, v3, v4, v5, v6, v7, v8, v9, v10, v11, v12, v13, v14, v15, v16, .int (zI ((w : Nat) : Int)), .int (zI ((le : Nat) : Int)), .int (zB (ra)), .int (zB (rl)), .ref (qn), v22, v23, v24, v25, v26, .ref (qr), .int (zI ((es : Nat) : Int)), .int (zI ((un : Nat) : Int)), .ref (qh), .ref (qi), .int (zB (true)), .ref (qe), .ref (qm), .int (zI ((lv1_4 : Nat) : Int)), .ref (qv), v37, v38, v39, v40, v41, v42, v43, v44])), (qn, .inl (dA 3, 66, .inl (fun jz => zI (nw jz)))), (qe, .inl (dA 3, 65536, .inl (fun jz => zI (eo1_1 jz)))), (qm, .inl (dA 3, 301, .inl (fun jz => zI (lm1_2 jz)))), (qv, .inl (dA 3, 301, .inl (fun jz => zI (la1_3 jz))))]) [0, 1, 2, 3, 4] rfl
    have hD := hD.sub (ws' := [(a, .inr (9, [v0, v1, v2, v3, v4, v5, v6, v7, v8, v9, v10, v11, v12, v13, v14, v15, v16, .int (zI ((w : Nat) : Int)), .int (zI ((le : Nat) : Int)), .int (zB (ra)), .int (zB (rl)), .ref (qn), v22, v23, v24, v25, v26, .ref (qr), .int (zI ((es : Nat) : Int)), .int (zI ((un : Nat) : Int)), .ref (qh), .ref (qi), .int (zB (true)), .ref (qe), .ref (qm), .int (zI ((lv1_4 : Nat) : Int)), .ref (qv), v37, v38, v39, v40, v41, v42, v43, v44])), (qn, .inl (dA 3, 66, .inl (fun jz => zI (nw jz)))), (qe, .inl (dA 3, 65536, .inl (fun jz => zI (eo1_1 jz)))), (qm, .inl (dA 3, 301, .inl (fun jz => zI (lm1_2 jz)))), (qv, .inl (dA 3, 301, .inl (fun jz => zI (la1_3 jz))))]) [0, 1, 2, 3, 4] (by decide) rfl
    have hp_14 : KnP w le (rgOf ra rl) nw eo1_1 lm1_2 lv1_4 la1_3 ∧ ∀ j, -100000 ≤ eo1_1 j ∧ eo1_1 j ≤ 100000 := hp_14
    refine W.widen (k := 0) (n := 0) (Nat.le_of_ble_eq_true rfl) (Nat.le_of_ble_eq_true rfl) ?_
    have lv9 := Kn_lv hp_14.1
    refine z_lconst0 C dX9_value_17 ?_
    refine lv_lstore_n (lv' := [(2, .long (lI (0))), (0, .ref (a)), (1, .int (zI (x)))]) hx hb dX9_value_18 rfl hl (by decide) rfl (fun ls hl => ?_)
    refine z_lconst1 C dX9_value_19 ?_
    refine lv_lstore (lv' := [(4, .long (lI (1))), (2, .long (lI (0))), (0, .ref (a)), (1, .int (zI (x)))]) hx hb dX9_value_20 hl (by decide) rfl (fun ls hl => ?_)
    refine z_iconst C dX9_value_22 ?_
    refine lv_istore (lv' := [(6, .int (zI 0)), (4, .long (lI (1))), (2, .long (lI (0))), (0, .ref (a)), (1, .int (zI (x)))]) hx hb dX9_value_23 hl (by decide) rfl (fun ls hl => ?_)
    refine lv_aload_n hx hb dX9_value_25 rfl (lv_at hl 3 rfl) ?_
    refine z_get C hP 0 rfl rfl in_X9 35 (by decide) q1919 rfl dX9_value_26 ?_
    refine z_if_ne (tgt := 36) C ⟨by omega, by omega⟩ dX9_value_29 (by decide) (fun c_29 => ?_) (fun c_29 => ?_)
    · exact absurd c_29 (by omega)
    · refine z_iconst C dX9_value_32 ?_
      refine lv_goto (tgt := 42) hx hb dX9_value_33 (by decide) ?_
      refine lv_istore (lv' := [(7, .int (zI 0)), (6, .int (zI 0)), (4, .long (lI (1))), (2, .long (lI (0))), (0, .ref (a)), (1, .int (zI (x)))]) hx hb dX9_value_42 hl (by decide) rfl (fun ls hl => ?_)
      refine lv_iload hx hb dX9_value_44 (lv_at hl 1 rfl) ?_
      refine lv_aload_n hx hb dX9_value_46 rfl (lv_at hl 4 rfl) ?_
      refine z_get C hP 0 rfl rfl in_X9 35 (by decide) q1919 rfl dX9_value_47 ?_
      refine z_icmp_ge (tgt := 107) C ⟨by decide, by decide⟩ ⟨by omega, by omega⟩ dX9_value_50 (by decide) (fun c_50 => ?_) (fun c_50 => ?_)
      · refine lv_lload_n hx hb dX9_value_107 rfl (lv_at hl 3 rfl) ?_
        refine z_l2i C dX9_value_108 ?_
        exact z_iretG C hlk hr hQ ⟨eo1_1, lm1_2, la1_3, lv1_4, true⟩ rfl ⟨fun _ => hp_14.1, hp_14.2⟩ (hP.sub [0, 1, 2, 3, 4] rfl) (hD.sub [0, 1, 2, 3, 4] (by decide) rfl) hS (Nat.le_of_ble_eq_true rfl) (Nat.le_of_ble_eq_true rfl) dX9_value_109
      · exact absurd c_50 (by omega)
  · have c_8 := of_decide_eq_false c_8; exact absurd c_8 (by omega)
set_option maxHeartbeats 600000 in
set_option maxRecDepth 100000 in
theorem k_X9_value_out (l : Launch) (D : va_G) (dA : Nat → ClassId) (a : Nat) (v0 v1 v2 v3 v4 v5 v6 v7 v8 v9 v10 v11 v12 v13 v14 v15 v16 v22 v23 v24 v25 v26 v37 v38 v39 v40 v41 v42 v43 v44 : Value) (w le lv es un qn qe qm qv qr qh qi : Nat) (ra rl kn : Bool) (x : Int) (hz : zR x) (hno : ¬ (0 ≤ x ∧ x ≤ 1000002)) : zM l yX9_value cX9_value 8 (some .int) (zRm 1 22) D dA [.ref (a), .int (zI (x))] [(a, .inr (9, [v0, v1, v2, v3, v4, v5, v6, v7, v8, v9, v10, v11, v12, v13, v14, v15, v16, .int (zI ((w : Nat) : Int)), .int (zI ((le : Nat) : Int)), .int (zB (ra)), .int (zB (rl)), .ref (qn), v22, v23, v24, v25, v26, .ref (qr), .int (zI ((es : Nat) : Int)), .int (zI ((un : Nat) : Int)), .ref (qh), .ref (qi), .int (zB (kn)), .ref (qe), .ref (qm), .int (zI ((lv : Nat) : Int)), .ref (qv), v37, v38, v39, v40, v41, v42, v43, v44]))] (some (.int (zI (-1)))) := by
  refine zM.of (by decide +kernel) rfl ?_
  intro pp ee ss mm args below meth cd Q C hr hlk hQ hP ls hl
  have hx := C.1.1
  have hb := C.1.2.1
  have hl : lv_has ls 8 [(0, .ref (a)), (1, .int (zI (x)))] := hl
  refine lv_iload_n hx hb dX9_value_0 rfl (lv_at hl 1 rfl) ?_
  refine z_iconst C dX9_value_1 ?_
  refine z_ldcw C (1000002) q2269 rfl dX9_value_2 ?_
  refine z_cS (n := 3) (As := [.int (zI (x)), .int (zI 0), .int (zI 1000002)]) (rest := []) C (k_X9_in l D dA ((x)) (0) (1000002) (by first | with_reducible assumption | omega | with_reducible rfl) (by first | with_reducible assumption | omega | with_reducible rfl) (by first | with_reducible assumption | omega | with_reducible rfl)) (lw_S q2090 q2091 q124 q2092) (by decide +kernel) rfl ⟨Nat.le_of_ble_eq_true rfl, Nat.le_of_ble_eq_true rfl⟩ hl.1 (hP.sub [] rfl) rfl (Nat.le_of_ble_eq_true rfl) dX9_value_5 (Nat.zero_le _) (Nat.zero_le _) ?_
  refine z_if_neB (tgt := 13) C dX9_value_8 (by decide) (fun c_8 => ?_) (fun c_8 => ?_)
  · have c_8 := of_decide_eq_true c_8; exact absurd c_8 hno
  · have c_8 := of_decide_eq_false c_8
    refine z_iconst C dX9_value_11 ?_
    exact z_iret C hlk hr hQ (by first | rfl | omega) dX9_value_12
