set_option maxHeartbeats 600000 in
set_option maxRecDepth 100000 in
theorem k_X9_part (l : Launch) (D : va_G) (dA : Nat → ClassId) (ab : Int) (bl : Nat) (wh : Int) (hab : -100000000 ≤ ab ∧ ab ≤ 100000000) (hbl : 0 < bl ∧ bl ≤ 100000000) (hwh : zR wh) : zM l yX9_part cX9_part 6 (some .int) (zRm 0 0) D dA [.int (zI (ab)), .int (zI ((bl : Nat) : Int)), .int (zI (wh))] [] (some (.int (zI (if wh = 0 then Int.tdiv ab ((Nat.gcd ab.natAbs bl : Nat) : Int) else ((bl / Nat.gcd ab.natAbs bl : Nat) : Int))))) := by
  refine zM.of (by decide +kernel) rfl ?_
  intro pp ee ss mm args below meth cd Q C hr hlk hQ hP ls hl
  have hx := C.1.1
  have hb := C.1.2.1
  have hl : lv_has ls 6 [(0, .int (zI (ab))), (1, .int (zI ((bl : Nat) : Int))), (2, .int (zI (wh)))] := hl
  refine lv_iload_n hx hb dX9_part_0 rfl (lv_at hl 0 rfl) ?_
  refine z_if_ge (tgt := 9) C ⟨by omega, by omega⟩ dX9_part_1 (by decide) (fun c_1 => ?_) (fun c_1 => ?_)
  · refine lv_iload_n hx hb dX9_part_9 rfl (lv_at hl 0 rfl) ?_
    rw [show ab = ((ab.natAbs : Nat) : Int) by omega]
    refine lv_istore_n (lv' := [(3, .int (zI ((ab.natAbs : Nat) : Int))), (0, .int (zI (ab))), (1, .int (zI ((bl : Nat) : Int))), (2, .int (zI (wh)))]) hx hb dX9_part_10 rfl hl (by decide) rfl (fun ls hl => ?_)
    refine lv_iload_n hx hb dX9_part_11 rfl (lv_at hl 2 rfl) ?_
    refine lv_istore (lv' := [(4, .int (zI ((bl : Nat) : Int))), (3, .int (zI ((ab.natAbs : Nat) : Int))), (0, .int (zI (ab))), (1, .int (zI ((bl : Nat) : Int))), (2, .int (zI (wh)))]) hx hb dX9_part_12 hl (by decide) rfl (fun ls hl => ?_)
    have L14 : ∀ (N : Nat) (x y : Nat), (Nat.gcd ab.natAbs bl = Nat.gcd x y) → (x ≤ 100000000) → (y ≤ 100000000) → (y) < N → ∀ ls : Array Slot, lv_has ls 6 [(0, .int (zI (ab))), (1, .int (zI ((bl : Nat) : Int))), (2, .int (zI (wh))), (3, .int (zI ((x : Nat) : Int))), (4, .int (zI ((y : Nat) : Int)))] → W pp l ee (zRm 0 0) ss mm args below meth cd ss.heap [] 0 0 Q (F0 mm 14 ls []) := by
      intro N
      induction N with
      | zero => intro x y _ _ _ hm; exact absurd hm (Nat.not_lt_zero _)
      | succ N ih14 =>
        intro x y hg hxb hyb hmz14 ls hl
        refine lv_iload hx hb dX9_part_14 (lv_at hl 4 rfl) ?_
        refine z_if_le (tgt := 35) C ⟨by omega, by omega⟩ dX9_part_16 (by decide) (fun c_16 => ?_) (fun c_16 => ?_)
        · have hy0 : y = 0 := by omega
          subst hy0
          rw [Nat.gcd_zero_right] at hg
          have hx0 : 0 < x := by rw [← hg]; exact Nat.gcd_pos_of_pos_right _ hbl.1
          refine lv_iload_n hx hb dX9_part_35 rfl (lv_at hl 2 rfl) ?_
          refine z_if_ne (tgt := 43) C ⟨by omega, by omega⟩ dX9_part_36 (by decide) (fun c_36 => ?_) (fun c_36 => ?_)
          · refine lv_iload_n hx hb dX9_part_43 rfl (lv_at hl 1 rfl) ?_
            refine lv_iload_n hx hb dX9_part_44 rfl (lv_at hl 3 rfl) ?_
            refine z_idivN C (bl) (x) rfl rfl (by omega) ⟨by omega, by omega⟩ dX9_part_45 ?_
            exact z_iret C hlk hr hQ (by rw [hg]; first | (rw [if_pos (by omega)]; done) | (rw [if_neg (by omega)]; done)) dX9_part_46
          · refine lv_iload_n hx hb dX9_part_39 rfl (lv_at hl 0 rfl) ?_
            refine lv_goto (tgt := 44) hx hb dX9_part_40 (by decide) ?_
            refine lv_iload_n hx hb dX9_part_44 rfl (lv_at hl 3 rfl) ?_
            refine z_tidiv C ⟨by omega, by omega⟩ ⟨by omega, by omega⟩ (by omega) (by omega) dX9_part_45 ?_
            exact z_iret C hlk hr hQ (by rw [hg]; first | (rw [if_pos (by omega)]; done) | (rw [if_neg (by omega)]; done)) dX9_part_46
        · refine lv_iload_n hx hb dX9_part_19 rfl (lv_at hl 3 rfl) ?_
          refine lv_iload hx hb dX9_part_20 (lv_at hl 4 rfl) ?_
          refine z_iremN C (x) (y) rfl rfl (by omega) ⟨by omega, by omega⟩ dX9_part_22 ?_
          refine z_nmN (fun rs_1 e_rs_1 => ?_)
          have hml := Nat.mod_lt x (show 0 < y by omega)
          refine lv_istore (lv' := [(5, .int (zI ((rs_1 : Nat) : Int))), (0, .int (zI (ab))), (1, .int (zI ((bl : Nat) : Int))), (2, .int (zI (wh))), (3, .int (zI ((x : Nat) : Int))), (4, .int (zI ((y : Nat) : Int)))]) hx hb dX9_part_23 hl (by decide) rfl (fun ls hl => ?_)
          refine lv_iload hx hb dX9_part_25 (lv_at hl 5 rfl) ?_
          refine lv_istore_n (lv' := [(3, .int (zI ((y : Nat) : Int))), (5, .int (zI ((rs_1 : Nat) : Int))), (0, .int (zI (ab))), (1, .int (zI ((bl : Nat) : Int))), (2, .int (zI (wh))), (4, .int (zI ((y : Nat) : Int)))]) hx hb dX9_part_27 rfl hl (by decide) rfl (fun ls hl => ?_)
          refine lv_iload hx hb dX9_part_28 (lv_at hl 1 rfl) ?_
          refine lv_istore (lv' := [(4, .int (zI ((rs_1 : Nat) : Int))), (3, .int (zI ((y : Nat) : Int))), (5, .int (zI ((rs_1 : Nat) : Int))), (0, .int (zI (ab))), (1, .int (zI ((bl : Nat) : Int))), (2, .int (zI (wh)))]) hx hb dX9_part_30 hl (by decide) rfl (fun ls hl => ?_)
          refine lv_goto (tgt := 14) hx hb dX9_part_32 (by decide) ?_
          exact ih14 (y) (rs_1) (by rw [hg, Nat.gcd_comm x y, Nat.gcd_rec, Nat.gcd_comm, e_rs_1]) (by first | with_reducible assumption | omega | with_reducible rfl) (by first | with_reducible assumption | omega | with_reducible rfl) (by omega) ls (lv_sub hl [3, 4, 5, 1, 0] rfl)
    exact L14 ((bl) + 1) (ab.natAbs) (bl) rfl (by first | with_reducible assumption | omega | with_reducible rfl) (by first | with_reducible assumption | omega | with_reducible rfl) (by omega) ls (lv_sub hl [2, 3, 4, 1, 0] rfl)
  · refine lv_iload_n hx hb dX9_part_4 rfl (lv_at hl 0 rfl) ?_
    refine z_ineg C dX9_part_5 ?_
    refine lv_goto (tgt := 10) hx hb dX9_part_6 (by decide) ?_
    rw [show -ab = ((ab.natAbs : Nat) : Int) by omega]
    refine lv_istore_n (lv' := [(3, .int (zI ((ab.natAbs : Nat) : Int))), (0, .int (zI (ab))), (1, .int (zI ((bl : Nat) : Int))), (2, .int (zI (wh)))]) hx hb dX9_part_10 rfl hl (by decide) rfl (fun ls hl => ?_)
    refine lv_iload_n hx hb dX9_part_11 rfl (lv_at hl 2 rfl) ?_
    refine lv_istore (lv' := [(4, .int (zI ((bl : Nat) : Int))), (3, .int (zI ((ab.natAbs : Nat) : Int))), (0, .int (zI (ab))), (1, .int (zI ((bl : Nat) : Int))), (2, .int (zI (wh)))]) hx hb dX9_part_12 hl (by decide) rfl (fun ls hl => ?_)
    have L14 : ∀ (N : Nat) (x y : Nat), (Nat.gcd ab.natAbs bl = Nat.gcd x y) → (x ≤ 100000000) → (y ≤ 100000000) → (y) < N → ∀ ls : Array Slot, lv_has ls 6 [(0, .int (zI (ab))), (1, .int (zI ((bl : Nat) : Int))), (2, .int (zI (wh))), (3, .int (zI ((x : Nat) : Int))), (4, .int (zI ((y : Nat) : Int)))] → W pp l ee (zRm 0 0) ss mm args below meth cd ss.heap [] 0 0 Q (F0 mm 14 ls []) := by
      intro N
      induction N with
      | zero => intro x y _ _ _ hm; exact absurd hm (Nat.not_lt_zero _)
      | succ N ih14 =>
        intro x y hg hxb hyb hmz14 ls hl
        refine lv_iload hx hb dX9_part_14 (lv_at hl 4 rfl) ?_
        refine z_if_le (tgt := 35) C ⟨by omega, by omega⟩ dX9_part_16 (by decide) (fun c_16 => ?_) (fun c_16 => ?_)
        · have hy0 : y = 0 := by omega
          subst hy0
          rw [Nat.gcd_zero_right] at hg
          have hx0 : 0 < x := by rw [← hg]; exact Nat.gcd_pos_of_pos_right _ hbl.1
          refine lv_iload_n hx hb dX9_part_35 rfl (lv_at hl 2 rfl) ?_
          refine z_if_ne (tgt := 43) C ⟨by omega, by omega⟩ dX9_part_36 (by decide) (fun c_36 => ?_) (fun c_36 => ?_)
          · refine lv_iload_n hx hb dX9_part_43 rfl (lv_at hl 1 rfl) ?_
            refine lv_iload_n hx hb dX9_part_44 rfl (lv_at hl 3 rfl) ?_
            refine z_idivN C (bl) (x) rfl rfl (by omega) ⟨by omega, by omega⟩ dX9_part_45 ?_
            exact z_iret C hlk hr hQ (by rw [hg]; first | (rw [if_pos (by omega)]; done) | (rw [if_neg (by omega)]; done)) dX9_part_46
          · refine lv_iload_n hx hb dX9_part_39 rfl (lv_at hl 0 rfl) ?_
            refine lv_goto (tgt := 44) hx hb dX9_part_40 (by decide) ?_
            refine lv_iload_n hx hb dX9_part_44 rfl (lv_at hl 3 rfl) ?_
            refine z_tidiv C ⟨by omega, by omega⟩ ⟨by omega, by omega⟩ (by omega) (by omega) dX9_part_45 ?_
            exact z_iret C hlk hr hQ (by rw [hg]; first | (rw [if_pos (by omega)]; done) | (rw [if_neg (by omega)]; done)) dX9_part_46
        · refine lv_iload_n hx hb dX9_part_19 rfl (lv_at hl 3 rfl) ?_
          refine lv_iload hx hb dX9_part_20 (lv_at hl 4 rfl) ?_
          refine z_iremN C (x) (y) rfl rfl (by omega) ⟨by omega, by omega⟩ dX9_part_22 ?_
          refine z_nmN (fun rs_2 e_rs_2 => ?_)
          have hml := Nat.mod_lt x (show 0 < y by omega)
          refine lv_istore (lv' := [(5, .int (zI ((rs_2 : Nat) : Int))), (0, .int (zI (ab))), (1, .int (zI ((bl : Nat) : Int))), (2, .int (zI (wh))), (3, .int (zI ((x : Nat) : Int))), (4, .int (zI ((y : Nat) : Int)))]) hx hb dX9_part_23 hl (by decide) rfl (fun ls hl => ?_)
          refine lv_iload hx hb dX9_part_25 (lv_at hl 5 rfl) ?_
          refine lv_istore_n (lv' := [(3, .int (zI ((y : Nat) : Int))), (5, .int (zI ((rs_2 : Nat) : Int))), (0, .int (zI (ab))), (1, .int (zI ((bl : Nat) : Int))), (2, .int (zI (wh))), (4, .int (zI ((y : Nat) : Int)))]) hx hb dX9_part_27 rfl hl (by decide) rfl (fun ls hl => ?_)
          refine lv_iload hx hb dX9_part_28 (lv_at hl 1 rfl) ?_
          refine lv_istore (lv' := [(4, .int (zI ((rs_2 : Nat) : Int))), (3, .int (zI ((y : Nat) : Int))), (5, .int (zI ((rs_2 : Nat) : Int))), (0, .int (zI (ab))), (1, .int (zI ((bl : Nat) : Int))), (2, .int (zI (wh)))]) hx hb dX9_part_30 hl (by decide) rfl (fun ls hl => ?_)
          refine lv_goto (tgt := 14) hx hb dX9_part_32 (by decide) ?_
          exact ih14 (y) (rs_2) (by rw [hg, Nat.gcd_comm x y, Nat.gcd_rec, Nat.gcd_comm, e_rs_2]) (by first | with_reducible assumption | omega | with_reducible rfl) (by first | with_reducible assumption | omega | with_reducible rfl) (by omega) ls (lv_sub hl [3, 4, 5, 1, 0] rfl)
    exact L14 ((bl) + 1) (ab.natAbs) (bl) rfl (by first | with_reducible assumption | omega | with_reducible rfl) (by first | with_reducible assumption | omega | with_reducible rfl) (by omega) ls (lv_sub hl [2, 3, 4, 1, 0] rfl)
set_option maxHeartbeats 600000 in
set_option maxRecDepth 100000 in
theorem k_X9_ground (l : Launch) (D : va_G) (dA : Nat → ClassId) (a : Nat) (v0 v1 v2 v3 v4 v5 v6 v7 v8 v9 v10 v11 v12 v13 v14 v15 v16 v22 v23 v24 v25 v26 v37 v38 v39 v40 v41 v42 v43 v44 : Value) (w le lv es un qn qe qm qv qr qh qi : Nat) (ra rl kn : Bool) (nw eo lm la : Nat → Int) (wh : Int) (hwl : w * le ≤ 16) (hle : le ≤ 16) (b3 : ∀ j, j < 48 → -3 ≤ nw j ∧ nw j ≤ 3) (bo : ∀ j, -1000000 ≤ nw j ∧ nw j ≤ 1000000) (be : ∀ j, -100000 ≤ eo j ∧ eo j ≤ 100000) (hkn : kn = true → KnP w le (rgOf ra rl) nw eo lm lv la) (h2 : zR wh) : zG (S := (Nat → Int) × (Nat → Int) × (Nat → Int) × Nat × Bool) l yX9_ground cX9_ground 2 (some .int) (zRmW 4 96 0 0) D dA [.ref (a), .int (zI (wh))] [(a, .inr (9, [v0, v1, v2, v3, v4, v5, v6, v7, v8, v9, v10, v11, v12, v13, v14, v15, v16, .int (zI ((w : Nat) : Int)), .int (zI ((le : Nat) : Int)), .int (zB (ra)), .int (zB (rl)), .ref (qn), v22, v23, v24, v25, v26, .ref (qr), .int (zI ((es : Nat) : Int)), .int (zI ((un : Nat) : Int)), .ref (qh), .ref (qi), .int (zB (kn)), .ref (qe), .ref (qm), .int (zI ((lv : Nat) : Int)), .ref (qv), v37, v38, v39, v40, v41, v42, v43, v44])), (qn, .inl (dA 3, 66, .inl (fun jz => zI (nw jz)))), (qe, .inl (dA 3, 65536, .inl (fun jz => zI (eo jz)))), (qm, .inl (dA 3, 301, .inl (fun jz => zI (lm jz)))), (qv, .inl (dA 3, 301, .inl (fun jz => zI (la jz))))] (fun u : (Nat → Int) × (Nat → Int) × (Nat → Int) × Nat × Bool => some (.int (zI ((if Lmany w le (rgOf ra rl) nw = 0 then -100000 else if wh = 0 then Lat w le (rgOf ra rl) nw 0 else if wh = 1 then ((Lc w le (rgOf ra rl) nw (150 + Lat w le (rgOf ra rl) nw 0).toNat : Nat) : Int) else if wh = 2 then ((fstS (fun s => decide (eM w le (rgOf ra rl) nw s = Lat w le (rgOf ra rl) nw 0)) (nst w le) : Nat) : Int) else if wh = 3 then (if Lmany w le (rgOf ra rl) nw = 1 then -2 else Lat w le (rgOf ra rl) nw 1 - Lat w le (rgOf ra rl) nw 0) else -100000))))) (fun u : (Nat → Int) × (Nat → Int) × (Nat → Int) × Nat × Bool => (u.2.2.2.2 = true → KnP w le (rgOf ra rl) nw u.1 u.2.1 u.2.2.2.1 u.2.2.1) ∧ ∀ j, -100000 ≤ u.1 j ∧ u.1 j ≤ 100000) (fun u : (Nat → Int) × (Nat → Int) × (Nat → Int) × Nat × Bool => [(a, .inr (9, [v0, v1, v2, v3, v4, v5, v6, v7, v8, v9, v10, v11, v12, v13, v14, v15, v16, .int (zI ((w : Nat) : Int)), .int (zI ((le : Nat) : Int)), .int (zB (ra)), .int (zB (rl)), .ref (qn), v22, v23, v24, v25, v26, .ref (qr), .int (zI ((es : Nat) : Int)), .int (zI ((un : Nat) : Int)), .ref (qh), .ref (qi), .int (zB (u.2.2.2.2)), .ref (qe), .ref (qm), .int (zI ((u.2.2.2.1 : Nat) : Int)), .ref (qv), v37, v38, v39, v40, v41, v42, v43, v44])), (qn, .inl (dA 3, 66, .inl (fun jz => zI (nw jz)))), (qe, .inl (dA 3, 65536, .inl (fun jz => zI (u.1 jz)))), (qm, .inl (dA 3, 301, .inl (fun jz => zI (u.2.1 jz)))), (qv, .inl (dA 3, 301, .inl (fun jz => zI (u.2.2.1 jz))))]) := by
  refine zG.of (by decide +kernel) rfl ?_
  intro pp ee ss mm args below meth cd Q A C hr hlk hQ hA hin H locs hP hD hS ls hl
  have hx := C.1.1
  have hb := C.1.2.1
  have hl : lv_has ls 2 [(0, .ref (a)), (1, .int (zI (wh)))] := hl
  have hns : nst w le ≤ 65536 := nst_le hwl
  refine lv_aload_n hx hb dX9_ground_0 rfl (lv_at hl 0 rfl) ?_
  refine z_gV (n := 0) (As := []) (rest := []) (wc := [(a, .inr (9, [v0, v1, v2, v3, v4, v5, v6, v7, v8, v9, v10, v11, v12, v13, v14, v15, v16, .int (zI ((w : Nat) : Int)), .int (zI ((le : Nat) : Int)), .int (zB (ra)), .int (zB (rl)), .ref (qn), v22, v23, v24, v25, v26, .ref (qr), .int (zI ((es : Nat) : Int)), .int (zI ((un : Nat) : Int)), .ref (qh), .ref (qi), .int (zB (kn)), .ref (qe), .ref (qm), .int (zI ((lv : Nat) : Int)), .ref (qv), v37, v38, v39, v40, v41, v42, v43, v44])), (qn, .inl (dA 3, 66, .inl (fun jz => zI (nw jz)))), (qe, .inl (dA 3, 65536, .inl (fun jz => zI (eo jz)))), (qm, .inl (dA 3, 301, .inl (fun jz => zI (lm jz)))), (qv, .inl (dA 3, 301, .inl (fun jz => zI (la jz))))]) (wr := []) C hP hD hS hA [0, 1, 2, 3, 4] [] rfl rfl (by decide) (by decide) (by decide) (k_X9_knows l D dA (a) (v0) (v1) (v2) (v3) (v4) (v5) (v6) (v7) (v8) (v9) (v10) (v11) (v12) (v13) (v14) (v15) (v16) (v22) (v23) (v24) (v25) (v26) (v37) (v38) (v39) (v40) (v41) (v42) (v43) (v44) (w) (le) (lv) (es) (un) (qn) (qe) (qm) (qv) (qr) (qh) (qi) (ra) (rl) (kn) (nw) (eo) (lm) (la) (by first | with_reducible assumption | omega | with_reducible rfl) (by first | with_reducible assumption | omega | with_reducible rfl) (by first | with_reducible assumption | omega | with_reducible rfl) (by first | with_reducible assumption | omega | with_reducible rfl) (by first | with_reducible assumption | omega | with_reducible rfl) (by first | with_reducible assumption | omega | with_reducible rfl)) (lw_V q2167 q2169 qs84 q124 q2170) (by decide +kernel) rfl ⟨Nat.le_of_ble_eq_true rfl, Nat.le_of_ble_eq_true rfl⟩ hl.1 0 rfl rfl rfl (Nat.le_of_ble_eq_true rfl) dX9_ground_1 (by decide) (by decide) (fun u_1 H locs hp_1 hP hD hS _ => ?_)
  obtain ⟨eo1_1, lm1_2, la1_3, lv1_4⟩ := u_1
  have hP := hP.sub (ws' := [(a, .inr (9, [v0, v1, v2, v3, v4, v5, v6, v7, v8, v9, v10, v11, v12, v13, v14, v15, v16, .int (zI ((w : Nat) : Int)), .int (zI ((le : Nat) : Int)), .int (zB (ra)), .int (zB (rl)), .ref (qn), v22, v23, v24, v25, v26, .ref (qr), .int (zI ((es : Nat) : Int)), .int (zI ((un : Nat) : Int)), .ref (qh), .ref (qi), .int (zB (true)), .ref (qe), .ref (qm), .int (zI ((lv1_4 : Nat) : Int)), .ref (qv), v37, v38, v39, v40, v41, v42, v43, v44])), (qn, .inl (dA 3, 66, .inl (fun jz => zI (nw jz)))), (qe, .inl (dA 3, 65536, .inl (fun jz => zI (eo1_1 jz)))), (qm, .inl (dA 3, 301, .inl (fun jz => zI (lm1_2 jz)))), (qv, .inl (dA 3, 301, .inl (fun jz => zI (la1_3 jz))))]) [0, 1, 2, 3, 4] rfl
  have hD := hD.sub (ws' := [(a, .inr (9, [v0, v1, v2, v3, v4, v5, v6, v7, v8, v9, v10, v11, v12, v13, v14, v15, v16, .int (zI ((w : Nat) : Int)), .int (zI ((le : Nat) : Int)), .int (zB (ra)), .int (zB (rl)), .ref (qn), v22, v23, v24, v25, v26, .ref (qr), .int (zI ((es : Nat) : Int)), .int (zI ((un : Nat) : Int)), .ref (qh), .ref (qi), .int (zB (true)), .ref (qe), .ref (qm), .int (zI ((lv1_4 : Nat) : Int)), .ref (qv), v37, v38, v39, v40, v41, v42, v43, v44])), (qn, .inl (dA 3, 66, .inl (fun jz => zI (nw jz)))), (qe, .inl (dA 3, 65536, .inl (fun jz => zI (eo1_1 jz)))), (qm, .inl (dA 3, 301, .inl (fun jz => zI (lm1_2 jz)))), (qv, .inl (dA 3, 301, .inl (fun jz => zI (la1_3 jz))))]) [0, 1, 2, 3, 4] (by decide) rfl
  have hp_1 : KnP w le (rgOf ra rl) nw eo1_1 lm1_2 lv1_4 la1_3 ∧ ∀ j, -100000 ≤ eo1_1 j ∧ eo1_1 j ≤ 100000 := hp_1
  refine W.widen (k := 0) (n := 0) (Nat.le_of_ble_eq_true rfl) (Nat.le_of_ble_eq_true rfl) ?_
  have lv9 := Kn_lv hp_1.1
  have lv8 := Lmany_le w le (rgOf ra rl) nw
  refine lv_aload_n hx hb dX9_ground_4 rfl (lv_at hl 0 rfl) ?_
  refine z_get C hP 0 rfl rfl in_X9 35 (by decide) q1919 rfl dX9_ground_5 ?_
  refine z_if_ne (tgt := 15) C ⟨by omega, by omega⟩ dX9_ground_8 (by decide) (fun c_8 => ?_) (fun c_8 => ?_)
  · have l9 := Kn_la hp_1.1 (show 0 < Lmany w le (rgOf ra rl) nw by omega)
    obtain ⟨gs, hg1, hg2⟩ := lat_ex hp_1.1 (show 0 < Lmany w le (rgOf ra rl) nw by omega)
    have fs9 := fstS_lt (p := fun s => decide (eM w le (rgOf ra rl) nw s = Lat w le (rgOf ra rl) nw 0)) hg1 (decide_eq_true hg2)
    refine lv_iload_n hx hb dX9_ground_15 rfl (lv_at hl 1 rfl) ?_
    rcases (show (wh) = 0 ∨ (wh) = 1 ∨ (wh) = 2 ∨ (wh) = 3 ∨ ((wh) < 0 ∨ 3 < (wh)) by omega) with hsw_16 | hsw_16 | hsw_16 | hsw_16 | hsw_16
    · rw [hsw_16]
      refine lv_tableIn (off := 32) (tgt := 48) hx hb dX9_ground_16 (by decide) (by decide) rfl (by decide) ?_
      refine lv_aload_n hx hb dX9_ground_48 rfl (lv_at hl 0 rfl) ?_
      refine z_get C hP 0 rfl rfl in_X9 36 (by decide) q1920 rfl dX9_ground_49 ?_
      refine z_iconst C dX9_ground_52 ?_
      refine z_iald C hP 4 rfl (0) rfl (by omega) (by decide) dX9_ground_53 ?_
      rw [l9.1]
      exact z_iretG C hlk hr hQ ⟨eo1_1, lm1_2, la1_3, lv1_4, true⟩ (by rw [if_neg (by omega), if_pos hsw_16]) ⟨fun _ => hp_1.1, hp_1.2⟩ (hP.sub [0, 1, 2, 3, 4] rfl) (hD.sub [0, 1, 2, 3, 4] (by decide) rfl) hS (Nat.le_of_ble_eq_true rfl) (Nat.le_of_ble_eq_true rfl) dX9_ground_54
    · rw [hsw_16]
      refine lv_tableIn (off := 39) (tgt := 55) hx hb dX9_ground_16 (by decide) (by decide) rfl (by decide) ?_
      refine lv_aload_n hx hb dX9_ground_55 rfl (lv_at hl 0 rfl) ?_
      refine z_get C hP 0 rfl rfl in_X9 34 (by decide) q1918 rfl dX9_ground_56 ?_
      refine z_sipush C dX9_ground_59 rfl ?_
      refine lv_aload_n hx hb dX9_ground_62 rfl (lv_at hl 0 rfl) ?_
      refine z_get C hP 0 rfl rfl in_X9 36 (by decide) q1920 rfl dX9_ground_63 ?_
      refine z_iconst C dX9_ground_66 ?_
      refine z_iald C hP 4 rfl (0) rfl (by omega) (by decide) dX9_ground_67 ?_
      rw [l9.1]
      refine z_iadd C dX9_ground_68 ?_
      refine z_iald C hP 3 rfl ((150 + Lat w le (rgOf ra rl) nw 0).toNat) (by omega) (by omega) (by decide) dX9_ground_69 ?_
      exact z_iretG C hlk hr hQ ⟨eo1_1, lm1_2, la1_3, lv1_4, true⟩ (by rw [if_neg (by omega), if_neg (by omega), if_pos hsw_16, Kn_lm hp_1.1 (by omega)]) ⟨fun _ => hp_1.1, hp_1.2⟩ (hP.sub [0, 1, 2, 3, 4] rfl) (hD.sub [0, 1, 2, 3, 4] (by decide) rfl) hS (Nat.le_of_ble_eq_true rfl) (Nat.le_of_ble_eq_true rfl) dX9_ground_70
    · rw [hsw_16]
      refine lv_tableIn (off := 55) (tgt := 71) hx hb dX9_ground_16 (by decide) (by decide) rfl (by decide) ?_
      refine lv_aload_n hx hb dX9_ground_71 rfl (lv_at hl 0 rfl) ?_
      refine lv_aload_n hx hb dX9_ground_72 rfl (lv_at hl 0 rfl) ?_
      refine z_get C hP 0 rfl rfl in_X9 36 (by decide) q1920 rfl dX9_ground_73 ?_
      refine z_iconst C dX9_ground_76 ?_
      refine z_iald C hP 4 rfl (0) rfl (by omega) (by decide) dX9_ground_77 ?_
      rw [l9.1]
      refine z_cV (n := 1) (As := [.int (zI (Lat w le (rgOf ra rl) nw 0))]) (rest := []) C hP (k_X9_leastOf l D dA (a) (v0) (v1) (v2) (v3) (v4) (v5) (v6) (v7) (v8) (v9) (v10) (v11) (v12) (v13) (v14) (v15) (v16) (v22) (v23) (v24) (v25) (v26) (.ref (qr)) (.int (zI ((es : Nat) : Int))) (.int (zI ((un : Nat) : Int))) (.ref (qh)) (.ref (qi)) (.int (zB (true))) (.ref (qm)) (.int (zI ((lv1_4 : Nat) : Int))) (v37) (v38) (v39) (v40) (v41) (v42) (v43) (v44) (w) (le) (ra) (rl) (qn) (qe) (qv) (eo1_1) ((Lat w le (rgOf ra rl) nw 0)) (fstS (fun s => decide (eM w le (rgOf ra rl) nw s = Lat w le (rgOf ra rl) nw 0)) (nst w le)) (by omega) (by rw [hp_1.1.1 _ fs9.1]; exact of_decide_eq_true fs9.2.1) (fun j hj => by rw [hp_1.1.1 j (by omega)]; exact of_decide_eq_false (fs9.2.2 j hj)) (by first | with_reducible assumption | omega | with_reducible rfl) hp_1.2) (lw_V q2224 q2226 qs92 q124 q2227) (by decide +kernel) rfl ⟨Nat.le_of_ble_eq_true rfl, Nat.le_of_ble_eq_true rfl⟩ hl.1 (hP.sub [0, 2] rfl) 0 rfl rfl rfl (Nat.le_of_ble_eq_true rfl) dX9_ground_78 (Nat.zero_le _) (Nat.zero_le _) ?_
      exact z_iretG C hlk hr hQ ⟨eo1_1, lm1_2, la1_3, lv1_4, true⟩ (by rw [if_neg (by omega), if_neg (by omega), if_neg (by omega), if_pos hsw_16]) ⟨fun _ => hp_1.1, hp_1.2⟩ (hP.sub [0, 1, 2, 3, 4] rfl) (hD.sub [0, 1, 2, 3, 4] (by decide) rfl) hS (Nat.le_of_ble_eq_true rfl) (Nat.le_of_ble_eq_true rfl) dX9_ground_81
    · rw [hsw_16]
      refine lv_tableIn (off := 66) (tgt := 82) hx hb dX9_ground_16 (by decide) (by decide) rfl (by decide) ?_
      refine lv_aload_n hx hb dX9_ground_82 rfl (lv_at hl 0 rfl) ?_
      refine z_get C hP 0 rfl rfl in_X9 35 (by decide) q1919 rfl dX9_ground_83 ?_
      refine z_iconst C dX9_ground_86 ?_
      refine z_icmp_ne (tgt := 95) C ⟨by omega, by omega⟩ ⟨by decide, by decide⟩ dX9_ground_87 (by decide) (fun c_87 => ?_) (fun c_87 => ?_)
      · have l8 := Kn_la hp_1.1 (show 1 < Lmany w le (rgOf ra rl) nw by omega)
        refine lv_aload_n hx hb dX9_ground_95 rfl (lv_at hl 0 rfl) ?_
        refine z_get C hP 0 rfl rfl in_X9 36 (by decide) q1920 rfl dX9_ground_96 ?_
        refine z_iconst C dX9_ground_99 ?_
        refine z_iald C hP 4 rfl (1) rfl (by omega) (by decide) dX9_ground_100 ?_
        refine lv_aload_n hx hb dX9_ground_101 rfl (lv_at hl 0 rfl) ?_
        refine z_get C hP 0 rfl rfl in_X9 36 (by decide) q1920 rfl dX9_ground_102 ?_
        refine z_iconst C dX9_ground_105 ?_
        refine z_iald C hP 4 rfl (0) rfl (by omega) (by decide) dX9_ground_106 ?_
        rw [l9.1, l8.1]
        refine z_isub C dX9_ground_107 ?_
        exact z_iretG C hlk hr hQ ⟨eo1_1, lm1_2, la1_3, lv1_4, true⟩ (by rw [if_neg (by omega), if_neg (by omega), if_neg (by omega), if_neg (by omega), if_pos hsw_16]; first | (rw [if_pos (by omega)]; done) | (rw [if_neg (by omega)]; done)) ⟨fun _ => hp_1.1, hp_1.2⟩ (hP.sub [0, 1, 2, 3, 4] rfl) (hD.sub [0, 1, 2, 3, 4] (by decide) rfl) hS (Nat.le_of_ble_eq_true rfl) (Nat.le_of_ble_eq_true rfl) dX9_ground_108
      · refine z_bipush C dX9_ground_90 rfl ?_
        refine lv_goto (tgt := 108) hx hb dX9_ground_92 (by decide) ?_
        exact z_iretG C hlk hr hQ ⟨eo1_1, lm1_2, la1_3, lv1_4, true⟩ (by rw [if_neg (by omega), if_neg (by omega), if_neg (by omega), if_neg (by omega), if_pos hsw_16]; first | (rw [if_pos (by omega)]; done) | (rw [if_neg (by omega)]; done)) ⟨fun _ => hp_1.1, hp_1.2⟩ (hP.sub [0, 1, 2, 3, 4] rfl) (hD.sub [0, 1, 2, 3, 4] (by decide) rfl) hS (Nat.le_of_ble_eq_true rfl) (Nat.le_of_ble_eq_true rfl) dX9_ground_108
    · refine lv_tableOut (tgt := 109) hx hb dX9_ground_16 (by rw [zI_toInt ⟨by omega, by omega⟩]; exact hsw_16) (by decide) ?_
      refine z_ldcw C (-100000) q2215 rfl dX9_ground_109 ?_
      exact z_iretG C hlk hr hQ ⟨eo1_1, lm1_2, la1_3, lv1_4, true⟩ (by rw [if_neg (by omega), if_neg (by omega), if_neg (by omega), if_neg (by omega), if_neg (by omega)]) ⟨fun _ => hp_1.1, hp_1.2⟩ (hP.sub [0, 1, 2, 3, 4] rfl) (hD.sub [0, 1, 2, 3, 4] (by decide) rfl) hS (Nat.le_of_ble_eq_true rfl) (Nat.le_of_ble_eq_true rfl) dX9_ground_112
  · refine z_ldcw C (-100000) q2215 rfl dX9_ground_11 ?_
    exact z_iretG C hlk hr hQ ⟨eo1_1, lm1_2, la1_3, lv1_4, true⟩ (by rw [if_pos (by omega)]) ⟨fun _ => hp_1.1, hp_1.2⟩ (hP.sub [0, 1, 2, 3, 4] rfl) (hD.sub [0, 1, 2, 3, 4] (by decide) rfl) hS (Nat.le_of_ble_eq_true rfl) (Nat.le_of_ble_eq_true rfl) dX9_ground_14
