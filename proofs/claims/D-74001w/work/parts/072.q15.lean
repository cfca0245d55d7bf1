theorem hl_out {e : Nat → Int} {m i : Nat} {hf : Nat → Int} (h : ∀ s, s < i → hlD1 e m hf s) (he : e i = 100000) : ∀ s, s < i + 1 → hlD1 e m hf s := by
  intro s hs
  rcases Nat.lt_or_ge s i with q | q
  · exact h s q
  · have : s = i := by omega
    subst this
    intro h1
    exact absurd he h1
theorem hl_in {e : Nat → Int} {m i kk : Nat} {hf : Nat → Int} {lw v : Int} (h : ∀ s, s < i → hlD1 e m hf s) (h2 : ∀ j, j < kk → lw ≤ hf (i ^^^ 2 ^ j)) (hv : v = if lw < e i then e i else lw) (hk : kk = m) (hge : hf i ≤ v) : ∀ s, s < i + 1 → hlD1 e m hf s := by
  intro s hs
  rcases Nat.lt_or_ge s i with q | q
  · exact h s q
  · have : s = i := by omega
    subst this
    intro h1 k hk2
    have h3 := h2 k (by omega)
    split at hv <;> omega
/-- hills at the start: at the goals what they are, elsewhere far above -/
def hlI (e : Nat → Int) (T : Nat → Bool) (hg : Nat → Int) (i : Nat) : Prop := ∀ s, s < i → (T s = true → hg s = e s ∧ e s < 100000 ∧ -100000 ≤ e s) ∧ (T s = false → hg s = 100000)
theorem hlI_0 {e : Nat → Int} {T : Nat → Bool} {hg : Nat → Int} : hlI e T hg 0 := fun s h => absurd h (Nat.not_lt_zero _)
theorem hlI_t {e : Nat → Int} {T : Nat → Bool} {hg : Nat → Int} {i : Nat} {v : Int} (h : hlI e T hg i) (hT : T i = true) (hv : v = e i) (hb : v < 100000 ∧ -100000 ≤ v) : hlI e T (va_up hg i v) (i + 1) := by
  intro s hs
  unfold va_up
  split
  · rename_i c; subst c
    exact ⟨fun _ => ⟨hv, by omega, by omega⟩, fun q => by rw [hT] at q; exact absurd q (by decide)⟩
  · exact h s (by omega)
theorem hlI_f {e : Nat → Int} {T : Nat → Bool} {hg : Nat → Int} {i : Nat} (h : hlI e T hg i) (hT : T i = false) : hlI e T (va_up hg i 100000) (i + 1) := by
  intro s hs
  unfold va_up
  split
  · rename_i c; subst c
    exact ⟨fun q => by rw [hT] at q; exact absurd q (by decide), fun _ => rfl⟩
  · exact h s (by omega)
theorem hl_init {e : Nat → Int} {m n : Nat} {T : Nat → Bool} {hg : Nat → Int} (h : hlI e T hg n) (hn : n = 2 ^ m) : hlS e m T hg := by
  subst hn
  refine ⟨fun s hs hq => ?_, fun t ht hT => ?_, fun j hj => ?_⟩
  · cases hT : T s with
    | true =>
      obtain ⟨h1, h2, h3⟩ := (h s hs).1 hT
      exact ⟨s, hT, Rc_refl (lkP_t (by omega) (by omega))⟩
    | false => have := (h s hs).2 hT; omega
  · have := ((h t ht).1 hT).1; omega
  · cases hT : T j with
    | true => obtain ⟨h1, h2, h3⟩ := (h j hj).1 hT; omega
    | false => have := (h j hj).2 hT; omega
set_option maxHeartbeats 600000 in
set_option maxRecDepth 100000 in
theorem k_X9_laysHills (l : Launch) (D : va_G) (dA : Nat → ClassId) (a : Nat) (v0 v1 v2 v3 v4 v5 v6 v7 v8 v9 v10 v11 v12 v13 v14 v15 v16 v22 v23 v24 v25 v26 v27 v28 v29 v30 v31 v32 v34 v35 v36 v37 v38 v39 v41 v42 v43 v44 : Value) (w le qn qe ql : Nat) (ra rl : Bool) (eo hf : Nat → Int) (e : Nat → Int) (T : Nat → Bool) (hwl : w * le ≤ 10) (h0 : w * le ≠ 0) (he : ∀ s, s < 2 ^ (w * le) → eo s = e s) (be : ∀ j, -100000 ≤ eo j ∧ eo j ≤ 100000) (hZ : hlS e (w * le) T hf) : zG (S := (Nat → Int)) l yX9_laysHills cX9_laysHills 5 (none) (zRmW 2 40 0 0) D dA [.ref (a)] [(a, .inr (9, [v0, v1, v2, v3, v4, v5, v6, v7, v8, v9, v10, v11, v12, v13, v14, v15, v16, .int (zI ((w : Nat) : Int)), .int (zI ((le : Nat) : Int)), .int (zB (ra)), .int (zB (rl)), .ref (qn), v22, v23, v24, v25, v26, v27, v28, v29, v30, v31, v32, .ref (qe), v34, v35, v36, v37, v38, v39, .ref (ql), v41, v42, v43, v44])), (qe, .inl (dA 3, 65536, .inl (fun jz => zI (eo jz)))), (ql, .inl (dA 3, 1024, .inl (fun jz => zI (hf jz))))] (fun u : (Nat → Int) => none) (fun u : (Nat → Int) => hlS e (w * le) T u ∧ ∀ s, s < 2 ^ (w * le) → hlD1 e (w * le) u s) (fun u : (Nat → Int) => [(a, .inr (9, [v0, v1, v2, v3, v4, v5, v6, v7, v8, v9, v10, v11, v12, v13, v14, v15, v16, .int (zI ((w : Nat) : Int)), .int (zI ((le : Nat) : Int)), .int (zB (ra)), .int (zB (rl)), .ref (qn), v22, v23, v24, v25, v26, v27, v28, v29, v30, v31, v32, .ref (qe), v34, v35, v36, v37, v38, v39, .ref (ql), v41, v42, v43, v44])), (qe, .inl (dA 3, 65536, .inl (fun jz => zI (eo jz)))), (ql, .inl (dA 3, 1024, .inl (fun jz => zI (u jz))))]) := by
  refine zG.of (by decide +kernel) rfl ?_
  intro pp ee ss mm args below meth cd Q A C hr hlk hQ hA hin H locs hP hD hS ls hl
  have hx := C.1.1
  have hb := C.1.2.1
  have hl : lv_has ls 5 [(0, .ref (a))] := hl
  have hns2 : nst w le ≤ 1024 := nst_le10 hwl
  have hnp : nst w le = 2 ^ (w * le) := (pow_nst w le).resolve_left h0
  refine z_iconst C dX9_laysHills_0 ?_
  refine lv_istore_n (lv' := [(1, .int (zI 1)), (0, .ref (a))]) hx hb dX9_laysHills_1 rfl hl (by decide) rfl (fun ls hl => ?_)
  have L2 : ∀ (N : Nat) (mr : Bool) (h0f : Nat → Int), (hlS e (w * le) T h0f) → (mr = false → ∀ s, s < 2 ^ (w * le) → hlD1 e (w * le) h0f s) → (2 * smH h0f (nst w le) + (if mr = true then 1 else 0)) < N → ∀ (H : Heap) (locs : List Loc), va_P D vwCl [(a, .inr (9, [v0, v1, v2, v3, v4, v5, v6, v7, v8, v9, v10, v11, v12, v13, v14, v15, v16, .int (zI ((w : Nat) : Int)), .int (zI ((le : Nat) : Int)), .int (zB (ra)), .int (zB (rl)), .ref (qn), v22, v23, v24, v25, v26, v27, v28, v29, v30, v31, v32, .ref (qe), v34, v35, v36, v37, v38, v39, .ref (ql), v41, v42, v43, v44])), (qe, .inl (dA 3, 65536, .inl (fun jz => zI (eo jz)))), (ql, .inl (dA 3, 1024, .inl (fun jz => zI (h0f jz))))] H → va_D A [(a, .inr (9, [v0, v1, v2, v3, v4, v5, v6, v7, v8, v9, v10, v11, v12, v13, v14, v15, v16, .int (zI ((w : Nat) : Int)), .int (zI ((le : Nat) : Int)), .int (zB (ra)), .int (zB (rl)), .ref (qn), v22, v23, v24, v25, v26, v27, v28, v29, v30, v31, v32, .ref (qe), v34, v35, v36, v37, v38, v39, .ref (ql), v41, v42, v43, v44])), (qe, .inl (dA 3, 65536, .inl (fun jz => zI (eo jz)))), (ql, .inl (dA 3, 1024, .inl (fun jz => zI (h0f jz))))] → va_S A ss.heap H locs → ∀ ls : Array Slot, lv_has ls 5 [(0, .ref (a)), (1, .int (zB (mr)))] → W pp l ee (zRmW 2 40 0 0) ss mm args below meth cd H locs 0 0 Q (F0 mm 2 ls []) := by
    intro N
    induction N with
    | zero => intro mr h0f _ _ hm; exact absurd hm (Nat.not_lt_zero _)
    | succ N ih2 =>
      intro mr h0f hZ hY hmz2 H locs hP hD hS ls hl
      refine lv_iload_n hx hb dX9_laysHills_2 rfl (lv_at hl 1 rfl) ?_
      refine z_if_eqB (tgt := 130) C dX9_laysHills_3 (by decide) (fun c_3 => ?_) (fun c_3 => ?_)
      · exact z_vretG C hlk hr hQ (h0f) rfl ⟨hZ, hY c_3⟩ (hP.sub [0, 1, 2] rfl) (hD.sub [0, 1, 2] (by decide) rfl) hS (Nat.le_of_ble_eq_true rfl) (Nat.le_of_ble_eq_true rfl) dX9_laysHills_130
      · refine z_iconst C dX9_laysHills_6 ?_
        refine lv_istore_n (lv' := [(1, .int (zI 0)), (0, .ref (a))]) hx hb dX9_laysHills_7 rfl hl (by decide) rfl (fun ls hl => ?_)
        refine z_iconst C dX9_laysHills_8 ?_
        refine lv_istore_n (lv' := [(2, .int (zI 0)), (1, .int (zI 0)), (0, .ref (a))]) hx hb dX9_laysHills_9 rfl hl (by decide) rfl (fun ls hl => ?_)
        have L10 : ∀ (N : Nat) (i : Nat) (m2 : Bool) (hf : Nat → Int), (i ≤ nst w le) → (hlS e (w * le) T hf) → (m2 = true → smH hf (nst w le) < smH h0f (nst w le)) → (m2 = false → hf = h0f ∧ ∀ s, s < i → hlD1 e (w * le) hf s) → (smH hf (nst w le) ≤ smH h0f (nst w le)) → (nst w le - i) < N → ∀ (H : Heap) (locs : List Loc), va_P D vwCl [(a, .inr (9, [v0, v1, v2, v3, v4, v5, v6, v7, v8, v9, v10, v11, v12, v13, v14, v15, v16, .int (zI ((w : Nat) : Int)), .int (zI ((le : Nat) : Int)), .int (zB (ra)), .int (zB (rl)), .ref (qn), v22, v23, v24, v25, v26, v27, v28, v29, v30, v31, v32, .ref (qe), v34, v35, v36, v37, v38, v39, .ref (ql), v41, v42, v43, v44])), (qe, .inl (dA 3, 65536, .inl (fun jz => zI (eo jz)))), (ql, .inl (dA 3, 1024, .inl (fun jz => zI (hf jz))))] H → va_D A [(a, .inr (9, [v0, v1, v2, v3, v4, v5, v6, v7, v8, v9, v10, v11, v12, v13, v14, v15, v16, .int (zI ((w : Nat) : Int)), .int (zI ((le : Nat) : Int)), .int (zB (ra)), .int (zB (rl)), .ref (qn), v22, v23, v24, v25, v26, v27, v28, v29, v30, v31, v32, .ref (qe), v34, v35, v36, v37, v38, v39, .ref (ql), v41, v42, v43, v44])), (qe, .inl (dA 3, 65536, .inl (fun jz => zI (eo jz)))), (ql, .inl (dA 3, 1024, .inl (fun jz => zI (hf jz))))] → va_S A ss.heap H locs → ∀ ls : Array Slot, lv_has ls 5 [(0, .ref (a)), (1, .int (zB (m2))), (2, .int (zI ((i : Nat) : Int)))] → W pp l ee (zRmW 2 40 0 0) ss mm args below meth cd H locs 0 0 Q (F0 mm 10 ls []) := by
          intro N
          induction N with
          | zero => intro i m2 hf _ _ _ _ _ hm; exact absurd hm (Nat.not_lt_zero _)
          | succ N ih10 =>
            intro i m2 hf hi hZ hm1 hm2 hm3 hmz10 H locs hP hD hS ls hl
            refine lv_iload_n hx hb dX9_laysHills_10 rfl (lv_at hl 2 rfl) ?_
            refine lv_aload_n hx hb dX9_laysHills_11 rfl (lv_at hl 0 rfl) ?_
            refine z_cV (n := 0) (As := []) (rest := [.int (zI ((i : Nat) : Int))]) C hP (k_X9_states l D dA (a) (v0) (v1) (v2) (v3) (v4) (v5) (v6) (v7) (v8) (v9) (v10) (v11) (v12) (v13) (v14) (v15) (v16) (v22) (v23) (v24) (v25) (v26) (v27) (v28) (v29) (v30) (v31) (v32) (.ref (qe)) (v34) (v35) (v36) (v37) (v38) (v39) (.ref (ql)) (v41) (v42) (v43) (v44) (w) (le) (ra) (rl) (qn) (by first | with_reducible assumption | omega | with_reducible rfl)) (lw_V q2171 q2173 qs85 q124 q2174) (by decide +kernel) rfl ⟨Nat.le_of_ble_eq_true rfl, Nat.le_of_ble_eq_true rfl⟩ hl.1 (hP.sub [0] rfl) 0 rfl rfl rfl (Nat.le_of_ble_eq_true rfl) dX9_laysHills_12 (Nat.zero_le _) (Nat.zero_le _) ?_
            refine z_icmp_ge (tgt := 127) C ⟨by omega, by omega⟩ ⟨by omega, by omega⟩ dX9_laysHills_15 (by decide) (fun c_15 => ?_) (fun c_15 => ?_)
            · have hms : 2 * smH hf (nst w le) + (if m2 = true then 1 else 0) < 2 * smH h0f (nst w le) + (if mr = true then 1 else 0) := by rw [if_pos c_3]; cases h9 : m2 with | true => (have := hm1 h9; simp only [if_true]; omega) | false => (simp only [Bool.false_eq_true, if_false]; omega)
              refine lv_goto (tgt := 2) hx hb dX9_laysHills_127 (by decide) ?_
              exact ih2 (m2) (hf) (by first | with_reducible assumption | omega | with_reducible rfl) (fun q s hs => by obtain ⟨h6, h7⟩ := hm2 q; exact h7 s (by omega)) (by omega) H locs hP hD hS ls (lv_sub hl [0, 1] rfl)
            · refine lv_aload_n hx hb dX9_laysHills_18 rfl (lv_at hl 0 rfl) ?_
              refine z_get C hP 0 rfl rfl in_X9 33 (by decide) q1917 rfl dX9_laysHills_19 ?_
              refine lv_iload_n hx hb dX9_laysHills_22 rfl (lv_at hl 2 rfl) ?_
              have q9 := he i (by omega)
              have b9 := be i
              refine z_iald C hP 1 rfl (i) rfl (by omega) (by decide) dX9_laysHills_23 ?_
              refine z_ldcw C (100000) q2186 rfl dX9_laysHills_24 ?_
              refine z_icmp_ne (tgt := 33) C ⟨by omega, by omega⟩ ⟨by decide, by decide⟩ dX9_laysHills_27 (by decide) (fun c_27 => ?_) (fun c_27 => ?_)
              · refine z_ldcw C (100000) q2186 rfl dX9_laysHills_33 ?_
                refine lv_istore_n (lv' := [(3, .int (zI 100000)), (0, .ref (a)), (1, .int (zB (m2))), (2, .int (zI ((i : Nat) : Int)))]) hx hb dX9_laysHills_36 rfl hl (by decide) rfl (fun ls hl => ?_)
                refine z_iconst C dX9_laysHills_37 ?_
                refine lv_istore (lv' := [(4, .int (zI 0)), (3, .int (zI 100000)), (0, .ref (a)), (1, .int (zB (m2))), (2, .int (zI ((i : Nat) : Int)))]) hx hb dX9_laysHills_38 hl (by decide) rfl (fun ls hl => ?_)
                have L40 : ∀ (N : Nat) (kk : Nat) (lw : Int), (kk ≤ w * le) → (lw = 100000 ∨ ∃ j, j < kk ∧ lw = hf (i ^^^ 2 ^ j)) → (∀ j, j < kk → lw ≤ hf (i ^^^ 2 ^ j)) → (-100000 ≤ lw ∧ lw ≤ 100000) → (w * le - kk) < N → ∀ (H : Heap) (locs : List Loc), va_P D vwCl [(a, .inr (9, [v0, v1, v2, v3, v4, v5, v6, v7, v8, v9, v10, v11, v12, v13, v14, v15, v16, .int (zI ((w : Nat) : Int)), .int (zI ((le : Nat) : Int)), .int (zB (ra)), .int (zB (rl)), .ref (qn), v22, v23, v24, v25, v26, v27, v28, v29, v30, v31, v32, .ref (qe), v34, v35, v36, v37, v38, v39, .ref (ql), v41, v42, v43, v44])), (qe, .inl (dA 3, 65536, .inl (fun jz => zI (eo jz)))), (ql, .inl (dA 3, 1024, .inl (fun jz => zI (hf jz))))] H → va_D A [(a, .inr (9, [v0, v1, v2, v3, v4, v5, v6, v7, v8, v9, v10, v11, v12, v13, v14, v15, v16, .int (zI ((w : Nat) : Int)), .int (zI ((le : Nat) : Int)), .int (zB (ra)), .int (zB (rl)), .ref (qn), v22, v23, v24, v25, v26, v27, v28, v29, v30, v31, v32, .ref (qe), v34, v35, v36, v37, v38, v39, .ref (ql), v41, v42, v43, v44])), (qe, .inl (dA 3, 65536, .inl (fun jz => zI (eo jz)))), (ql, .inl (dA 3, 1024, .inl (fun jz => zI (hf jz))))] → va_S A ss.heap H locs → ∀ ls : Array Slot, lv_has ls 5 [(0, .ref (a)), (1, .int (zB (m2))), (2, .int (zI ((i : Nat) : Int))), (3, .int (zI (lw))), (4, .int (zI ((kk : Nat) : Int)))] → W pp l ee (zRmW 2 40 0 0) ss mm args below meth cd H locs 0 0 Q (F0 mm 40 ls []) := by
                  intro N
                  induction N with
                  | zero => intro kk lw _ _ _ _ hm; exact absurd hm (Nat.not_lt_zero _)
                  | succ N ih40 =>
                    intro kk lw hk hl1 hl2 hlb hmz40 H locs hP hD hS ls hl
                    refine lv_iload hx hb dX9_laysHills_40 (lv_at hl 4 rfl) ?_
                    refine lv_aload_n hx hb dX9_laysHills_42 rfl (lv_at hl 0 rfl) ?_
                    refine z_cV (n := 0) (As := []) (rest := [.int (zI ((kk : Nat) : Int))]) C hP (k_X9_sites l D dA (a) (v0) (v1) (v2) (v3) (v4) (v5) (v6) (v7) (v8) (v9) (v10) (v11) (v12) (v13) (v14) (v15) (v16) (v22) (v23) (v24) (v25) (v26) (v27) (v28) (v29) (v30) (v31) (v32) (.ref (qe)) (v34) (v35) (v36) (v37) (v38) (v39) (.ref (ql)) (v41) (v42) (v43) (v44) (w) (le) (ra) (rl) (qn)) (lw_V q2112 q2114 qs80 q124 q2115) (by decide +kernel) rfl ⟨Nat.le_of_ble_eq_true rfl, Nat.le_of_ble_eq_true rfl⟩ hl.1 (hP.sub [0] rfl) 0 rfl rfl rfl (Nat.le_of_ble_eq_true rfl) dX9_laysHills_43 (Nat.zero_le _) (Nat.zero_le _) ?_
                    refine z_icmp_ge (tgt := 82) C ⟨by omega, by omega⟩ ⟨by omega, by omega⟩ dX9_laysHills_46 (by decide) (fun c_46 => ?_) (fun c_46 => ?_)
                    · have hkk : kk = w * le := by omega
                      have b7 := hZ.2.2 i (by omega)
                      refine lv_iload_n hx hb dX9_laysHills_82 rfl (lv_at hl 3 rfl) ?_
                      refine lv_aload_n hx hb dX9_laysHills_83 rfl (lv_at hl 0 rfl) ?_
                      refine z_get C hP 0 rfl rfl in_X9 33 (by decide) q1917 rfl dX9_laysHills_84 ?_
                      refine lv_iload_n hx hb dX9_laysHills_87 rfl (lv_at hl 2 rfl) ?_
                      refine z_iald C hP 1 rfl (i) rfl (by omega) (by decide) dX9_laysHills_88 ?_
                      refine z_icmp_ge (tgt := 99) C ⟨by omega, by omega⟩ ⟨by omega, by omega⟩ dX9_laysHills_89 (by decide) (fun c_89 => ?_) (fun c_89 => ?_)
                      · have hq4 : (lw) = if lw < e i then e i else lw := by first | (rw [if_pos (by omega)]; omega) | (rw [if_neg (by omega)]; done)
                        refine lv_iload_n hx hb dX9_laysHills_99 rfl (lv_at hl 3 rfl) ?_
                        refine lv_aload_n hx hb dX9_laysHills_100 rfl (lv_at hl 0 rfl) ?_
                        refine z_get C hP 0 rfl rfl in_X9 40 (by decide) q1924 rfl dX9_laysHills_101 ?_
                        refine lv_iload_n hx hb dX9_laysHills_104 rfl (lv_at hl 2 rfl) ?_
                        refine z_iald C hP 2 rfl (i) rfl (by omega) (by decide) dX9_laysHills_105 ?_
                        refine z_icmp_lt (tgt := 112) C ⟨by omega, by omega⟩ ⟨by omega, by omega⟩ dX9_laysHills_106 (by decide) (fun c_106 => ?_) (fun c_106 => ?_)
                        · have hSu : hlS e (w * le) T (va_up hf i (lw)) := by rcases hl1 with h | ⟨j, hj, h⟩; exact absurd h (by omega); exact hl_up hZ (by omega) h (by omega) (by omega) (by omega) hq4 (by omega) (by omega)
                          have hSm := smH_up (hf := hf) (s := i) (n := nst w le) (v := (lw)) (by omega) (by omega) (by omega)
                          refine lv_aload_n hx hb dX9_laysHills_112 rfl (lv_at hl 0 rfl) ?_
                          refine z_get C hP 0 rfl rfl in_X9 40 (by decide) q1924 rfl dX9_laysHills_113 ?_
                          refine lv_iload_n hx hb dX9_laysHills_116 rfl (lv_at hl 2 rfl) ?_
                          refine lv_iload_n hx hb dX9_laysHills_117 rfl (lv_at hl 3 rfl) ?_
                          refine z_iast C hP hD hS 2 rfl (i) rfl (by omega) (by decide) (v := (lw)) (ws' := [(a, .inr (9, [v0, v1, v2, v3, v4, v5, v6, v7, v8, v9, v10, v11, v12, v13, v14, v15, v16, .int (zI ((w : Nat) : Int)), .int (zI ((le : Nat) : Int)), .int (zB (ra)), .int (zB (rl)), .ref (qn), v22, v23, v24, v25, v26, v27, v28, v29, v30, v31, v32, .ref (qe), v34, v35, v36, v37, v38, v39, .ref (ql), v41, v42, v43, v44])), (qe, .inl (dA 3, 65536, .inl (fun jz => zI (eo jz)))), (ql, .inl (dA 3, 1024, .inl (fun jz => zI ((va_up hf i (lw)) jz))))]) rfl dX9_laysHills_118 (fun H locs hP hD hS => ?_)
                          refine z_iconst C dX9_laysHills_119 ?_
                          refine lv_istore_n (lv' := [(1, .int (zI 1)), (0, .ref (a)), (2, .int (zI ((i : Nat) : Int))), (3, .int (zI (lw))), (4, .int (zI ((kk : Nat) : Int)))]) hx hb dX9_laysHills_120 rfl hl (by decide) rfl (fun ls hl => ?_)
                          refine lv_iinc (v := zI ((i + 1 : Nat) : Int)) (lv' := [(2, .int (zI ((i + 1 : Nat) : Int))), (1, .int (zI 1)), (0, .ref (a)), (3, .int (zI (lw))), (4, .int (zI ((kk : Nat) : Int)))]) hx hb dX9_laysHills_121 hl (k := 2) rfl (zI_inc (by omega)) (by decide) rfl (fun ls hl => ?_)
                          refine lv_goto (tgt := 10) hx hb dX9_laysHills_124 (by decide) ?_
                          exact ih10 (i + 1) (true) ((va_up hf i (lw))) (by first | with_reducible assumption | omega | with_reducible rfl) (by first | exact hZ | exact hSu) (by first | exact hm1 | exact (fun _ => by omega)) (by first | exact (fun q => absurd q (by decide)) | exact (fun q => ⟨(hm2 q).1, hl_out (hm2 q).2 (by omega)⟩) | exact (fun q => ⟨(hm2 q).1, hl_in (hm2 q).2 hl2 hq4 (by omega) (by omega)⟩)) (by first | with_reducible assumption | omega) (by omega) H locs hP hD hS ls (lv_sub hl [2, 1, 0] rfl)
                        · refine lv_goto (tgt := 121) hx hb dX9_laysHills_109 (by decide) ?_
                          refine lv_iinc (v := zI ((i + 1 : Nat) : Int)) (lv' := [(2, .int (zI ((i + 1 : Nat) : Int))), (0, .ref (a)), (1, .int (zB (m2))), (3, .int (zI (lw))), (4, .int (zI ((kk : Nat) : Int)))]) hx hb dX9_laysHills_121 hl (k := 2) rfl (zI_inc (by omega)) (by decide) rfl (fun ls hl => ?_)
                          refine lv_goto (tgt := 10) hx hb dX9_laysHills_124 (by decide) ?_
                          exact ih10 (i + 1) (m2) (hf) (by first | with_reducible assumption | omega | with_reducible rfl) (by first | exact hZ | exact hSu) (by first | exact hm1 | exact (fun _ => by omega)) (by first | exact (fun q => absurd q (by decide)) | exact (fun q => ⟨(hm2 q).1, hl_out (hm2 q).2 (by omega)⟩) | exact (fun q => ⟨(hm2 q).1, hl_in (hm2 q).2 hl2 hq4 (by omega) (by omega)⟩)) (by first | with_reducible assumption | omega) (by omega) H locs hP hD hS ls (lv_sub hl [1, 2, 0] rfl)
                      · refine lv_aload_n hx hb dX9_laysHills_92 rfl (lv_at hl 0 rfl) ?_
                        refine z_get C hP 0 rfl rfl in_X9 33 (by decide) q1917 rfl dX9_laysHills_93 ?_
                        refine lv_iload_n hx hb dX9_laysHills_96 rfl (lv_at hl 2 rfl) ?_
                        refine z_iald C hP 1 rfl (i) rfl (by omega) (by decide) dX9_laysHills_97 ?_
                        refine lv_istore_n (lv' := [(3, .int (zI (eo i))), (0, .ref (a)), (1, .int (zB (m2))), (2, .int (zI ((i : Nat) : Int))), (4, .int (zI ((kk : Nat) : Int)))]) hx hb dX9_laysHills_98 rfl hl (by decide) rfl (fun ls hl => ?_)
                        have hq4 : (eo i) = if lw < e i then e i else lw := by first | (rw [if_pos (by omega)]; omega) | (rw [if_neg (by omega)]; done)
                        refine lv_iload_n hx hb dX9_laysHills_99 rfl (lv_at hl 0 rfl) ?_
                        refine lv_aload_n hx hb dX9_laysHills_100 rfl (lv_at hl 1 rfl) ?_
                        refine z_get C hP 0 rfl rfl in_X9 40 (by decide) q1924 rfl dX9_laysHills_101 ?_
                        refine lv_iload_n hx hb dX9_laysHills_104 rfl (lv_at hl 3 rfl) ?_
                        refine z_iald C hP 2 rfl (i) rfl (by omega) (by decide) dX9_laysHills_105 ?_
                        refine z_icmp_lt (tgt := 112) C ⟨by omega, by omega⟩ ⟨by omega, by omega⟩ dX9_laysHills_106 (by decide) (fun c_106 => ?_) (fun c_106 => ?_)
                        · have hSu : hlS e (w * le) T (va_up hf i (eo i)) := by rcases hl1 with h | ⟨j, hj, h⟩; exact absurd h (by omega); exact hl_up hZ (by omega) h (by omega) (by omega) (by omega) hq4 (by omega) (by omega)
                          have hSm := smH_up (hf := hf) (s := i) (n := nst w le) (v := (eo i)) (by omega) (by omega) (by omega)
                          refine lv_aload_n hx hb dX9_laysHills_112 rfl (lv_at hl 1 rfl) ?_
                          refine z_get C hP 0 rfl rfl in_X9 40 (by decide) q1924 rfl dX9_laysHills_113 ?_
                          refine lv_iload_n hx hb dX9_laysHills_116 rfl (lv_at hl 3 rfl) ?_
                          refine lv_iload_n hx hb dX9_laysHills_117 rfl (lv_at hl 0 rfl) ?_
                          refine z_iast C hP hD hS 2 rfl (i) rfl (by omega) (by decide) (v := (eo i)) (ws' := [(a, .inr (9, [v0, v1, v2, v3, v4, v5, v6, v7, v8, v9, v10, v11, v12, v13, v14, v15, v16, .int (zI ((w : Nat) : Int)), .int (zI ((le : Nat) : Int)), .int (zB (ra)), .int (zB (rl)), .ref (qn), v22, v23, v24, v25, v26, v27, v28, v29, v30, v31, v32, .ref (qe), v34, v35, v36, v37, v38, v39, .ref (ql), v41, v42, v43, v44])), (qe, .inl (dA 3, 65536, .inl (fun jz => zI (eo jz)))), (ql, .inl (dA 3, 1024, .inl (fun jz => zI ((va_up hf i (eo i)) jz))))]) rfl dX9_laysHills_118 (fun H locs hP hD hS => ?_)
                          refine z_iconst C dX9_laysHills_119 ?_
                          refine lv_istore_n (lv' := [(1, .int (zI 1)), (3, .int (zI (eo i))), (0, .ref (a)), (2, .int (zI ((i : Nat) : Int))), (4, .int (zI ((kk : Nat) : Int)))]) hx hb dX9_laysHills_120 rfl hl (by decide) rfl (fun ls hl => ?_)
                          refine lv_iinc (v := zI ((i + 1 : Nat) : Int)) (lv' := [(2, .int (zI ((i + 1 : Nat) : Int))), (1, .int (zI 1)), (3, .int (zI (eo i))), (0, .ref (a)), (4, .int (zI ((kk : Nat) : Int)))]) hx hb dX9_laysHills_121 hl (k := 3) rfl (zI_inc (by omega)) (by decide) rfl (fun ls hl => ?_)
                          refine lv_goto (tgt := 10) hx hb dX9_laysHills_124 (by decide) ?_
                          exact ih10 (i + 1) (true) ((va_up hf i (eo i))) (by first | with_reducible assumption | omega | with_reducible rfl) (by first | exact hZ | exact hSu) (by first | exact hm1 | exact (fun _ => by omega)) (by first | exact (fun q => absurd q (by decide)) | exact (fun q => ⟨(hm2 q).1, hl_out (hm2 q).2 (by omega)⟩) | exact (fun q => ⟨(hm2 q).1, hl_in (hm2 q).2 hl2 hq4 (by omega) (by omega)⟩)) (by first | with_reducible assumption | omega) (by omega) H locs hP hD hS ls (lv_sub hl [3, 1, 0] rfl)
                        · refine lv_goto (tgt := 121) hx hb dX9_laysHills_109 (by decide) ?_
                          refine lv_iinc (v := zI ((i + 1 : Nat) : Int)) (lv' := [(2, .int (zI ((i + 1 : Nat) : Int))), (3, .int (zI (eo i))), (0, .ref (a)), (1, .int (zB (m2))), (4, .int (zI ((kk : Nat) : Int)))]) hx hb dX9_laysHills_121 hl (k := 3) rfl (zI_inc (by omega)) (by decide) rfl (fun ls hl => ?_)
                          refine lv_goto (tgt := 10) hx hb dX9_laysHills_124 (by decide) ?_
                          exact ih10 (i + 1) (m2) (hf) (by first | with_reducible assumption | omega | with_reducible rfl) (by first | exact hZ | exact hSu) (by first | exact hm1 | exact (fun _ => by omega)) (by first | exact (fun q => absurd q (by decide)) | exact (fun q => ⟨(hm2 q).1, hl_out (hm2 q).2 (by omega)⟩) | exact (fun q => ⟨(hm2 q).1, hl_in (hm2 q).2 hl2 hq4 (by omega) (by omega)⟩)) (by first | with_reducible assumption | omega) (by omega) H locs hP hD hS ls (lv_sub hl [2, 3, 0] rfl)
                    · have hx8 := x_lt (show i < 2 ^ (w * le) by omega) (show kk < w * le by omega)
                      have b8 := hZ.2.2 (i ^^^ 2 ^ kk) hx8
                      refine lv_aload_n hx hb dX9_laysHills_49 rfl (lv_at hl 0 rfl) ?_
                      refine z_get C hP 0 rfl rfl in_X9 40 (by decide) q1924 rfl dX9_laysHills_50 ?_
                      refine lv_iload_n hx hb dX9_laysHills_53 rfl (lv_at hl 2 rfl) ?_
                      refine z_iconst C dX9_laysHills_54 ?_
                      refine lv_iload hx hb dX9_laysHills_55 (lv_at hl 4 rfl) ?_
                      refine z_ishl1 C (kk) rfl rfl (by omega) dX9_laysHills_57 ?_
                      refine z_ixor C (i) ((2 ^ kk)) rfl rfl dX9_laysHills_58 ?_
                      refine z_iald C hP 2 rfl ((i ^^^ (2 ^ kk))) rfl (by omega) (by decide) dX9_laysHills_59 ?_
                      refine lv_iload_n hx hb dX9_laysHills_60 rfl (lv_at hl 3 rfl) ?_
                      refine z_icmp_ge (tgt := 76) C ⟨by omega, by omega⟩ ⟨by omega, by omega⟩ dX9_laysHills_61 (by decide) (fun c_61 => ?_) (fun c_61 => ?_)
                      · refine lv_iinc (v := zI ((kk + 1 : Nat) : Int)) (lv' := [(4, .int (zI ((kk + 1 : Nat) : Int))), (0, .ref (a)), (1, .int (zB (m2))), (2, .int (zI ((i : Nat) : Int))), (3, .int (zI (lw)))]) hx hb dX9_laysHills_76 hl (k := 4) rfl (zI_inc (by omega)) (by decide) rfl (fun ls hl => ?_)
                        refine lv_goto (tgt := 40) hx hb dX9_laysHills_79 (by decide) ?_
                        exact ih40 (kk + 1) ((lw)) (by first | with_reducible assumption | omega | with_reducible rfl) (by first | exact Or.inr ⟨kk, by omega, rfl⟩ | (rcases hl1 with h | ⟨j, hj, h⟩; exact Or.inl h; exact Or.inr ⟨j, by omega, h⟩)) (fun j hj => by rcases Nat.lt_or_ge j kk with q | q; have := hl2 j q; omega; rw [show j = kk by omega]; omega) (by first | with_reducible assumption | omega | with_reducible rfl) (by omega) H locs hP hD hS ls (lv_sub hl [1, 2, 3, 4, 0] rfl)
                      · refine lv_aload_n hx hb dX9_laysHills_64 rfl (lv_at hl 0 rfl) ?_
                        refine z_get C hP 0 rfl rfl in_X9 40 (by decide) q1924 rfl dX9_laysHills_65 ?_
                        refine lv_iload_n hx hb dX9_laysHills_68 rfl (lv_at hl 2 rfl) ?_
                        refine z_iconst C dX9_laysHills_69 ?_
                        refine lv_iload hx hb dX9_laysHills_70 (lv_at hl 4 rfl) ?_
                        refine z_ishl1 C (kk) rfl rfl (by omega) dX9_laysHills_72 ?_
                        refine z_ixor C (i) ((2 ^ kk)) rfl rfl dX9_laysHills_73 ?_
                        refine z_iald C hP 2 rfl ((i ^^^ (2 ^ kk))) rfl (by omega) (by decide) dX9_laysHills_74 ?_
                        refine lv_istore_n (lv' := [(3, .int (zI (hf (i ^^^ (2 ^ kk))))), (0, .ref (a)), (1, .int (zB (m2))), (2, .int (zI ((i : Nat) : Int))), (4, .int (zI ((kk : Nat) : Int)))]) hx hb dX9_laysHills_75 rfl hl (by decide) rfl (fun ls hl => ?_)
                        refine lv_iinc (v := zI ((kk + 1 : Nat) : Int)) (lv' := [(4, .int (zI ((kk + 1 : Nat) : Int))), (3, .int (zI (hf (i ^^^ (2 ^ kk))))), (0, .ref (a)), (1, .int (zB (m2))), (2, .int (zI ((i : Nat) : Int)))]) hx hb dX9_laysHills_76 hl (k := 4) rfl (zI_inc (by omega)) (by decide) rfl (fun ls hl => ?_)
                        refine lv_goto (tgt := 40) hx hb dX9_laysHills_79 (by decide) ?_
                        exact ih40 (kk + 1) ((hf (i ^^^ (2 ^ kk)))) (by first | with_reducible assumption | omega | with_reducible rfl) (by first | exact Or.inr ⟨kk, by omega, rfl⟩ | (rcases hl1 with h | ⟨j, hj, h⟩; exact Or.inl h; exact Or.inr ⟨j, by omega, h⟩)) (fun j hj => by rcases Nat.lt_or_ge j kk with q | q; have := hl2 j q; omega; rw [show j = kk by omega]; omega) (by first | with_reducible assumption | omega | with_reducible rfl) (by omega) H locs hP hD hS ls (lv_sub hl [2, 3, 4, 1, 0] rfl)
                exact L40 ((w * le - 0) + 1) (0) (100000) (by first | with_reducible assumption | omega | with_reducible rfl) (Or.inl rfl) (fun j h => absurd h (Nat.not_lt_zero _)) (by first | with_reducible assumption | omega | with_reducible rfl) (by omega) H locs hP hD hS ls (lv_sub hl [2, 3, 4, 1, 0] rfl)
              · refine lv_goto (tgt := 121) hx hb dX9_laysHills_30 (by decide) ?_
                refine lv_iinc (v := zI ((i + 1 : Nat) : Int)) (lv' := [(2, .int (zI ((i + 1 : Nat) : Int))), (0, .ref (a)), (1, .int (zB (m2)))]) hx hb dX9_laysHills_121 hl (k := 2) rfl (zI_inc (by omega)) (by decide) rfl (fun ls hl => ?_)
                refine lv_goto (tgt := 10) hx hb dX9_laysHills_124 (by decide) ?_
                exact ih10 (i + 1) (m2) (hf) (by first | with_reducible assumption | omega | with_reducible rfl) (by first | exact hZ | exact hSu) (by first | exact hm1 | exact (fun _ => by omega)) (by first | exact (fun q => absurd q (by decide)) | exact (fun q => ⟨(hm2 q).1, hl_out (hm2 q).2 (by omega)⟩) | exact (fun q => ⟨(hm2 q).1, hl_in (hm2 q).2 hl2 hq4 (by omega) (by omega)⟩)) (by first | with_reducible assumption | omega) (by omega) H locs hP hD hS ls (lv_sub hl [1, 2, 0] rfl)
        exact L10 ((nst w le - 0) + 1) (0) (false) (h0f) (by first | with_reducible assumption | omega | with_reducible rfl) hZ (fun q => absurd q (by decide)) (fun _ => ⟨rfl, fun s h => absurd h (Nat.not_lt_zero _)⟩) (Nat.le_refl _) (by omega) H locs hP hD hS ls (lv_sub hl [2, 1, 0] rfl)
  exact L2 ((2 * smH hf (nst w le) + (if true = true then 1 else 0)) + 1) (true) (hf) (by first | with_reducible assumption | omega | with_reducible rfl) (fun q => absurd q (by decide)) (by omega) H locs hP hD hS ls (lv_sub hl [1, 0] rfl)
set_option maxHeartbeats 600000 in
set_option maxRecDepth 100000 in
theorem k_X9_hill (l : Launch) (D : va_G) (dA : Nat → ClassId) (a : Nat) (v0 v1 v2 v3 v4 v5 v6 v7 v8 v9 v10 v11 v12 v13 v14 v15 v16 v22 v23 v24 v25 v26 v37 v38 v39 v41 v42 v43 v44 : Value) (w le lv es un qn qe qm qv qr qh qi ql : Nat) (ra rl kn : Bool) (nw eo lm la : Nat → Int) (hl0 : Nat → Int) (x : Int) (hwl : w * le ≤ 16) (hle : le ≤ 16) (b3 : ∀ j, j < 48 → -3 ≤ nw j ∧ nw j ≤ 3) (bo : ∀ j, -1000000 ≤ nw j ∧ nw j ≤ 1000000) (be : ∀ j, -100000 ≤ eo j ∧ eo j ≤ 100000) (hkn : kn = true → KnP w le (rgOf ra rl) nw eo lm lv la) (h1 : zR x) : zG (S := (Nat → Int) × (Nat → Int) × (Nat → Int) × Nat × Bool × (Nat → Int) × Int) l yX9_hill cX9_hill 3 (some .int) (zRmW 4 96 0 0) D dA [.ref (a), .int (zI (x))] [(a, .inr (9, [v0, v1, v2, v3, v4, v5, v6, v7, v8, v9, v10, v11, v12, v13, v14, v15, v16, .int (zI ((w : Nat) : Int)), .int (zI ((le : Nat) : Int)), .int (zB (ra)), .int (zB (rl)), .ref (qn), v22, v23, v24, v25, v26, .ref (qr), .int (zI ((es : Nat) : Int)), .int (zI ((un : Nat) : Int)), .ref (qh), .ref (qi), .int (zB (kn)), .ref (qe), .ref (qm), .int (zI ((lv : Nat) : Int)), .ref (qv), v37, v38, v39, .ref (ql), v41, v42, v43, v44])), (qn, .inl (dA 3, 66, .inl (fun jz => zI (nw jz)))), (qe, .inl (dA 3, 65536, .inl (fun jz => zI (eo jz)))), (qm, .inl (dA 3, 301, .inl (fun jz => zI (lm jz)))), (qv, .inl (dA 3, 301, .inl (fun jz => zI (la jz)))), (ql, .inl (dA 3, 1024, .inl (fun jz => zI (hl0 jz))))] (fun u : (Nat → Int) × (Nat → Int) × (Nat → Int) × Nat × Bool × (Nat → Int) × Int => some (.int (zI (u.2.2.2.2.2.2)))) (fun u : (Nat → Int) × (Nat → Int) × (Nat → Int) × Nat × Bool × (Nat → Int) × Int => ((u.2.2.2.2.1 = true → KnP w le (rgOf ra rl) nw u.1 u.2.1 u.2.2.2.1 u.2.2.1) ∧ ∀ j, -100000 ≤ u.1 j ∧ u.1 j ≤ 100000) ∧ ((lawMZ w le nw x = true ∧ w * le ≤ 10) → hlV (eM w le (rgOf ra rl) nw) (w * le) (fun s => decide (eM w le (rgOf ra rl) nw s = Lat w le (rgOf ra rl) nw 0)) x.toNat u.2.2.2.2.2.2) ∧ (¬ (lawMZ w le nw x = true ∧ w * le ≤ 10) → u.2.2.2.2.2.2 = -100000)) (fun u : (Nat → Int) × (Nat → Int) × (Nat → Int) × Nat × Bool × (Nat → Int) × Int => [(a, .inr (9, [v0, v1, v2, v3, v4, v5, v6, v7, v8, v9, v10, v11, v12, v13, v14, v15, v16, .int (zI ((w : Nat) : Int)), .int (zI ((le : Nat) : Int)), .int (zB (ra)), .int (zB (rl)), .ref (qn), v22, v23, v24, v25, v26, .ref (qr), .int (zI ((es : Nat) : Int)), .int (zI ((un : Nat) : Int)), .ref (qh), .ref (qi), .int (zB (u.2.2.2.2.1)), .ref (qe), .ref (qm), .int (zI ((u.2.2.2.1 : Nat) : Int)), .ref (qv), v37, v38, v39, .ref (ql), v41, v42, v43, v44])), (qn, .inl (dA 3, 66, .inl (fun jz => zI (nw jz)))), (qe, .inl (dA 3, 65536, .inl (fun jz => zI (u.1 jz)))), (qm, .inl (dA 3, 301, .inl (fun jz => zI (u.2.1 jz)))), (qv, .inl (dA 3, 301, .inl (fun jz => zI (u.2.2.1 jz)))), (ql, .inl (dA 3, 1024, .inl (fun jz => zI (u.2.2.2.2.2.1 jz))))]) := by
  refine zG.of (by decide +kernel) rfl ?_
  intro pp ee ss mm args below meth cd Q A C hr hlk hQ hA hin H locs hP hD hS ls hl
  have hx := C.1.1
  have hb := C.1.2.1
  have hl : lv_has ls 3 [(0, .ref (a)), (1, .int (zI (x)))] := hl
  have hns : nst w le ≤ 65536 := nst_le hwl
  refine lv_aload_n hx hb dX9_hill_0 rfl (lv_at hl 0 rfl) ?_
  refine lv_iload_n hx hb dX9_hill_1 rfl (lv_at hl 1 rfl) ?_
  refine z_cV (n := 1) (As := [.int (zI (x))]) (rest := []) C hP (k_X9_isLawful l D dA (a) (v0) (v1) (v2) (v3) (v4) (v5) (v6) (v7) (v8) (v9) (v10) (v11) (v12) (v13) (v14) (v15) (v16) (v22) (v23) (v24) (v25) (v26) (.ref (qr)) (.int (zI ((es : Nat) : Int))) (.int (zI ((un : Nat) : Int))) (.ref (qh)) (.ref (qi)) (.int (zB (kn))) (.ref (qe)) (.ref (qm)) (.int (zI ((lv : Nat) : Int))) (.ref (qv)) (v37) (v38) (v39) (.ref (ql)) (v41) (v42) (v43) (v44) (w) (le) (ra) (rl) (qn) (nw) ((x)) (by first | with_reducible assumption | omega | with_reducible rfl) (by first | with_reducible assumption | omega | with_reducible rfl) (by first | with_reducible assumption | omega | with_reducible rfl)) (lw_V q2175 q2177 qs86 q124 q2178) (by decide +kernel) rfl ⟨Nat.le_of_ble_eq_true rfl, Nat.le_of_ble_eq_true rfl⟩ hl.1 (hP.sub [0, 1] rfl) 0 rfl rfl rfl (Nat.le_of_ble_eq_true rfl) dX9_hill_2 (Nat.zero_le _) (Nat.zero_le _) ?_
  refine z_if_eqB (tgt := 17) C dX9_hill_5 (by decide) (fun c_5 => ?_) (fun c_5 => ?_)
  · refine z_ldcw C (-100000) q2215 rfl dX9_hill_17 ?_
    exact z_iretG C hlk hr hQ ⟨eo, lm, la, lv, kn, hl0, -100000⟩ rfl ⟨⟨hkn, be⟩, ⟨fun q => absurd q (by first | (intro y; rw [c_5] at y; exact absurd y.1 (by decide)) | omega), fun _ => rfl⟩⟩ (hP.sub [0, 1, 2, 3, 4, 5] rfl) (hD.sub [0, 1, 2, 3, 4, 5] (by decide) rfl) hS (Nat.le_of_ble_eq_true rfl) (Nat.le_of_ble_eq_true rfl) dX9_hill_20
  · refine lv_aload_n hx hb dX9_hill_8 rfl (lv_at hl 0 rfl) ?_
    refine z_cV (n := 0) (As := []) (rest := []) C hP (k_X9_sites l D dA (a) (v0) (v1) (v2) (v3) (v4) (v5) (v6) (v7) (v8) (v9) (v10) (v11) (v12) (v13) (v14) (v15) (v16) (v22) (v23) (v24) (v25) (v26) (.ref (qr)) (.int (zI ((es : Nat) : Int))) (.int (zI ((un : Nat) : Int))) (.ref (qh)) (.ref (qi)) (.int (zB (kn))) (.ref (qe)) (.ref (qm)) (.int (zI ((lv : Nat) : Int))) (.ref (qv)) (v37) (v38) (v39) (.ref (ql)) (v41) (v42) (v43) (v44) (w) (le) (ra) (rl) (qn)) (lw_V q2112 q2114 qs80 q124 q2115) (by decide +kernel) rfl ⟨Nat.le_of_ble_eq_true rfl, Nat.le_of_ble_eq_true rfl⟩ hl.1 (hP.sub [0] rfl) 0 rfl rfl rfl (Nat.le_of_ble_eq_true rfl) dX9_hill_9 (Nat.zero_le _) (Nat.zero_le _) ?_
    refine z_bipush C dX9_hill_12 rfl ?_
    refine z_icmp_le (tgt := 21) C ⟨by omega, by omega⟩ ⟨by decide, by decide⟩ dX9_hill_14 (by decide) (fun c_14 => ?_) (fun c_14 => ?_)
    · have hx9 := lawMZ_in c_5
      obtain ⟨xn, rfl⟩ : ∃ q : Nat, x = (q : Int) := ⟨x.toNat, by omega⟩
      rw [Int.toNat_natCast] at hx9
      have hx8 : xn < nst w le := by omega
      have hnp := nst_pow hx8
      have hns2 : nst w le ≤ 1024 := nst_le10 (by omega)
      have h00 := nst_ne hx8
      have hlm := Nat.lt_of_le_of_lt (Nat.zero_le _) (lev_lm (rg := rgOf ra rl) hwl b3 hx8 hx9.2)
      refine lv_aload_n hx hb dX9_hill_21 rfl (lv_at hl 0 rfl) ?_
      refine z_gV (n := 0) (As := []) (rest := []) (wc := [(a, .inr (9, [v0, v1, v2, v3, v4, v5, v6, v7, v8, v9, v10, v11, v12, v13, v14, v15, v16, .int (zI ((w : Nat) : Int)), .int (zI ((le : Nat) : Int)), .int (zB (ra)), .int (zB (rl)), .ref (qn), v22, v23, v24, v25, v26, .ref (qr), .int (zI ((es : Nat) : Int)), .int (zI ((un : Nat) : Int)), .ref (qh), .ref (qi), .int (zB (kn)), .ref (qe), .ref (qm), .int (zI ((lv : Nat) : Int)), .ref (qv), v37, v38, v39, .ref (ql), v41, v42, v43, v44])), (qn, .inl (dA 3, 66, .inl (fun jz => zI (nw jz)))), (qe, .inl (dA 3, 65536, .inl (fun jz => zI (eo jz)))), (qm, .inl (dA 3, 301, .inl (fun jz => zI (lm jz)))), (qv, .inl (dA 3, 301, .inl (fun jz => zI (la jz))))]) (wr := [(ql, .inl (dA 3, 1024, .inl (fun jz => zI (hl0 jz))))]) C hP hD hS hA [0, 1, 2, 3, 4] [5] rfl rfl (by decide) (by decide) (by decide) (k_X9_knows l D dA (a) (v0) (v1) (v2) (v3) (v4) (v5) (v6) (v7) (v8) (v9) (v10) (v11) (v12) (v13) (v14) (v15) (v16) (v22) (v23) (v24) (v25) (v26) (v37) (v38) (v39) (.ref (ql)) (v41) (v42) (v43) (v44) (w) (le) (lv) (es) (un) (qn) (qe) (qm) (qv) (qr) (qh) (qi) (ra) (rl) (kn) (nw) (eo) (lm) (la) (by first | with_reducible assumption | omega | with_reducible rfl) (by first | with_reducible assumption | omega | with_reducible rfl) (by first | with_reducible assumption | omega | with_reducible rfl) (by first | with_reducible assumption | omega | with_reducible rfl) (by first | with_reducible assumption | omega | with_reducible rfl) (by first | with_reducible assumption | omega | with_reducible rfl)) (lw_V q2167 q2169 qs84 q124 q2170) (by decide +kernel) rfl ⟨Nat.le_of_ble_eq_true rfl, Nat.le_of_ble_eq_true rfl⟩ hl.1 0 rfl rfl rfl (Nat.le_of_ble_eq_true rfl) dX9_hill_22 (by decide) (by decide) (fun u_22 H locs hp_22 hP hD hS _ => ?_)
      obtain ⟨eo1_1, lm1_2, la1_3, lv1_4⟩ := u_22
      have hP := hP.sub (ws' := [(a, .inr (9, [v0, v1, v2, v3, v4, v5, v6, v7, v8, v9, v10, v11, v12, v13, v14, v15, v16, .int (zI ((w : Nat) : Int)), .int (zI ((le : Nat) : Int)), .int (zB (ra)), .int (zB (rl)), .ref (qn), v22, v23, v24, v25, v26, .ref (qr), .int (zI ((es : Nat) : Int)), .int (zI ((un : Nat) : Int)), .ref (qh), .ref (qi), .int (zB (true)), .ref (qe), .ref (qm), .int (zI ((lv1_4 : Nat) : Int)), .ref (qv), v37, v38, v39, .ref (ql), v41, v42, v43, v44])), (qn, .inl (dA 3, 66, .inl (fun jz => zI (nw jz)))), (qe, .inl (dA 3, 65536, .inl (fun jz => zI (eo1_1 jz)))), (qm, .inl (dA 3, 301, .inl (fun jz => zI (lm1_2 jz)))), (qv, .inl (dA 3, 301, .inl (fun jz => zI (la1_3 jz)))), (ql, .inl (dA 3, 1024, .inl (fun jz => zI (hl0 jz))))]) [1, 2, 3, 4, 5, 0] rfl
      have hD := hD.sub (ws' := [(a, .inr (9, [v0, v1, v2, v3, v4, v5, v6, v7, v8, v9, v10, v11, v12, v13, v14, v15, v16, .int (zI ((w : Nat) : Int)), .int (zI ((le : Nat) : Int)), .int (zB (ra)), .int (zB (rl)), .ref (qn), v22, v23, v24, v25, v26, .ref (qr), .int (zI ((es : Nat) : Int)), .int (zI ((un : Nat) : Int)), .ref (qh), .ref (qi), .int (zB (true)), .ref (qe), .ref (qm), .int (zI ((lv1_4 : Nat) : Int)), .ref (qv), v37, v38, v39, .ref (ql), v41, v42, v43, v44])), (qn, .inl (dA 3, 66, .inl (fun jz => zI (nw jz)))), (qe, .inl (dA 3, 65536, .inl (fun jz => zI (eo1_1 jz)))), (qm, .inl (dA 3, 301, .inl (fun jz => zI (lm1_2 jz)))), (qv, .inl (dA 3, 301, .inl (fun jz => zI (la1_3 jz)))), (ql, .inl (dA 3, 1024, .inl (fun jz => zI (hl0 jz))))]) [1, 2, 3, 4, 5, 0] (by decide) rfl
      have hp_22 : KnP w le (rgOf ra rl) nw eo1_1 lm1_2 lv1_4 la1_3 ∧ ∀ j, -100000 ≤ eo1_1 j ∧ eo1_1 j ≤ 100000 := hp_22
      refine W.widen (k := 0) (n := 0) (Nat.le_of_ble_eq_true rfl) (Nat.le_of_ble_eq_true rfl) ?_
      have l0 := Kn_la hp_22.1 hlm
      obtain ⟨gs, hg1, hg2⟩ := gr_ex hp_22.1 hlm
      have hex := hill_ex (rg := rgOf ra rl) (T := (fun s => decide (eM w le (rgOf ra rl) nw s = Lat w le (rgOf ra rl) nw 0))) hwl b3 hx9.2 (eM_law2 (rg := rgOf ra rl) (s := gs) (by omega)) (decide_eq_true hg2)
      refine z_iconst C dX9_hill_25 ?_
      refine lv_istore_n (lv' := [(2, .int (zI 0)), (0, .ref (a)), (1, .int (zI ((xn : Nat) : Int)))]) hx hb dX9_hill_26 rfl hl (by decide) rfl (fun ls hl => ?_)
      have L27 : ∀ (N : Nat) (i : Nat) (hg : Nat → Int), (i ≤ nst w le) → (hlI (eM w le (rgOf ra rl) nw) (fun s => decide (eM w le (rgOf ra rl) nw s = Lat w le (rgOf ra rl) nw 0)) hg i) → (nst w le - i) < N → ∀ (H : Heap) (locs : List Loc), va_P D vwCl [(a, .inr (9, [v0, v1, v2, v3, v4, v5, v6, v7, v8, v9, v10, v11, v12, v13, v14, v15, v16, .int (zI ((w : Nat) : Int)), .int (zI ((le : Nat) : Int)), .int (zB (ra)), .int (zB (rl)), .ref (qn), v22, v23, v24, v25, v26, .ref (qr), .int (zI ((es : Nat) : Int)), .int (zI ((un : Nat) : Int)), .ref (qh), .ref (qi), .int (zB (true)), .ref (qe), .ref (qm), .int (zI ((lv1_4 : Nat) : Int)), .ref (qv), v37, v38, v39, .ref (ql), v41, v42, v43, v44])), (qn, .inl (dA 3, 66, .inl (fun jz => zI (nw jz)))), (qe, .inl (dA 3, 65536, .inl (fun jz => zI (eo1_1 jz)))), (qm, .inl (dA 3, 301, .inl (fun jz => zI (lm1_2 jz)))), (qv, .inl (dA 3, 301, .inl (fun jz => zI (la1_3 jz)))), (ql, .inl (dA 3, 1024, .inl (fun jz => zI (hg jz))))] H → va_D A [(a, .inr (9, [v0, v1, v2, v3, v4, v5, v6, v7, v8, v9, v10, v11, v12, v13, v14, v15, v16, .int (zI ((w : Nat) : Int)), .int (zI ((le : Nat) : Int)), .int (zB (ra)), .int (zB (rl)), .ref (qn), v22, v23, v24, v25, v26, .ref (qr), .int (zI ((es : Nat) : Int)), .int (zI ((un : Nat) : Int)), .ref (qh), .ref (qi), .int (zB (true)), .ref (qe), .ref (qm), .int (zI ((lv1_4 : Nat) : Int)), .ref (qv), v37, v38, v39, .ref (ql), v41, v42, v43, v44])), (qn, .inl (dA 3, 66, .inl (fun jz => zI (nw jz)))), (qe, .inl (dA 3, 65536, .inl (fun jz => zI (eo1_1 jz)))), (qm, .inl (dA 3, 301, .inl (fun jz => zI (lm1_2 jz)))), (qv, .inl (dA 3, 301, .inl (fun jz => zI (la1_3 jz)))), (ql, .inl (dA 3, 1024, .inl (fun jz => zI (hg jz))))] → va_S A ss.heap H locs → ∀ ls : Array Slot, lv_has ls 3 [(0, .ref (a)), (1, .int (zI ((xn : Nat) : Int))), (2, .int (zI ((i : Nat) : Int)))] → W pp l ee (zRmW 4 96 0 0) ss mm args below meth cd H locs 0 0 Q (F0 mm 27 ls []) := by
        intro N
        induction N with
        | zero => intro i hg _ _ hm; exact absurd hm (Nat.not_lt_zero _)
        | succ N ih27 =>
          intro i hg hi hl9 hmz27 H locs hP hD hS ls hl
          refine lv_iload_n hx hb dX9_hill_27 rfl (lv_at hl 2 rfl) ?_
          refine lv_aload_n hx hb dX9_hill_28 rfl (lv_at hl 0 rfl) ?_
          refine z_cV (n := 0) (As := []) (rest := [.int (zI ((i : Nat) : Int))]) C hP (k_X9_states l D dA (a) (v0) (v1) (v2) (v3) (v4) (v5) (v6) (v7) (v8) (v9) (v10) (v11) (v12) (v13) (v14) (v15) (v16) (v22) (v23) (v24) (v25) (v26) (.ref (qr)) (.int (zI ((es : Nat) : Int))) (.int (zI ((un : Nat) : Int))) (.ref (qh)) (.ref (qi)) (.int (zB (true))) (.ref (qe)) (.ref (qm)) (.int (zI ((lv1_4 : Nat) : Int))) (.ref (qv)) (v37) (v38) (v39) (.ref (ql)) (v41) (v42) (v43) (v44) (w) (le) (ra) (rl) (qn) (by first | with_reducible assumption | omega | with_reducible rfl)) (lw_V q2171 q2173 qs85 q124 q2174) (by decide +kernel) rfl ⟨Nat.le_of_ble_eq_true rfl, Nat.le_of_ble_eq_true rfl⟩ hl.1 (hP.sub [0] rfl) 0 rfl rfl rfl (Nat.le_of_ble_eq_true rfl) dX9_hill_29 (Nat.zero_le _) (Nat.zero_le _) ?_
          refine z_icmp_ge (tgt := 74) C ⟨by omega, by omega⟩ ⟨by omega, by omega⟩ dX9_hill_32 (by decide) (fun c_32 => ?_) (fun c_32 => ?_)
          · refine lv_aload_n hx hb dX9_hill_74 rfl (lv_at hl 0 rfl) ?_
            have hin9 : i = nst w le := by omega
            refine z_gV (n := 0) (As := []) (rest := []) (wc := [(a, .inr (9, [v0, v1, v2, v3, v4, v5, v6, v7, v8, v9, v10, v11, v12, v13, v14, v15, v16, .int (zI ((w : Nat) : Int)), .int (zI ((le : Nat) : Int)), .int (zB (ra)), .int (zB (rl)), .ref (qn), v22, v23, v24, v25, v26, .ref (qr), .int (zI ((es : Nat) : Int)), .int (zI ((un : Nat) : Int)), .ref (qh), .ref (qi), .int (zB (true)), .ref (qe), .ref (qm), .int (zI ((lv1_4 : Nat) : Int)), .ref (qv), v37, v38, v39, .ref (ql), v41, v42, v43, v44])), (qe, .inl (dA 3, 65536, .inl (fun jz => zI (eo1_1 jz)))), (ql, .inl (dA 3, 1024, .inl (fun jz => zI (hg jz))))]) (wr := [(qn, .inl (dA 3, 66, .inl (fun jz => zI (nw jz)))), (qm, .inl (dA 3, 301, .inl (fun jz => zI (lm1_2 jz)))), (qv, .inl (dA 3, 301, .inl (fun jz => zI (la1_3 jz))))]) C hP hD hS hA [0, 2, 5] [1, 3, 4] rfl rfl (by decide) (by decide) (by decide) (k_X9_laysHills l D dA (a) (v0) (v1) (v2) (v3) (v4) (v5) (v6) (v7) (v8) (v9) (v10) (v11) (v12) (v13) (v14) (v15) (v16) (v22) (v23) (v24) (v25) (v26) (.ref (qr)) (.int (zI ((es : Nat) : Int))) (.int (zI ((un : Nat) : Int))) (.ref (qh)) (.ref (qi)) (.int (zB (true))) (.ref (qm)) (.int (zI ((lv1_4 : Nat) : Int))) (.ref (qv)) (v37) (v38) (v39) (v41) (v42) (v43) (v44) (w) (le) (qn) (qe) (ql) (ra) (rl) (eo1_1) (hg) (eM w le (rgOf ra rl) nw) ((fun s => decide (eM w le (rgOf ra rl) nw s = Lat w le (rgOf ra rl) nw 0))) (by omega) h00 (fun s hs => hp_22.1.1 s (by omega)) hp_22.2 (hl_init hl9 (by omega))) (lw_V q2300 q2302 qs97 q124 q2303) (by decide +kernel) rfl ⟨Nat.le_of_ble_eq_true rfl, Nat.le_of_ble_eq_true rfl⟩ hl.1 0 rfl rfl rfl (Nat.le_of_ble_eq_true rfl) dX9_hill_75 (by decide) (by decide) (fun u_75 H locs hp_75 hP hD hS _ => ?_)
            obtain ⟨hf1_5, rfl⟩ : ∃ z, z = u_75 := ⟨_, rfl⟩
            have hP := hP.sub (ws' := [(a, .inr (9, [v0, v1, v2, v3, v4, v5, v6, v7, v8, v9, v10, v11, v12, v13, v14, v15, v16, .int (zI ((w : Nat) : Int)), .int (zI ((le : Nat) : Int)), .int (zB (ra)), .int (zB (rl)), .ref (qn), v22, v23, v24, v25, v26, .ref (qr), .int (zI ((es : Nat) : Int)), .int (zI ((un : Nat) : Int)), .ref (qh), .ref (qi), .int (zB (true)), .ref (qe), .ref (qm), .int (zI ((lv1_4 : Nat) : Int)), .ref (qv), v37, v38, v39, .ref (ql), v41, v42, v43, v44])), (qn, .inl (dA 3, 66, .inl (fun jz => zI (nw jz)))), (qe, .inl (dA 3, 65536, .inl (fun jz => zI (eo1_1 jz)))), (qm, .inl (dA 3, 301, .inl (fun jz => zI (lm1_2 jz)))), (qv, .inl (dA 3, 301, .inl (fun jz => zI (la1_3 jz)))), (ql, .inl (dA 3, 1024, .inl (fun jz => zI (hf1_5 jz))))]) [3, 0, 4, 1, 2, 5] rfl
            have hD := hD.sub (ws' := [(a, .inr (9, [v0, v1, v2, v3, v4, v5, v6, v7, v8, v9, v10, v11, v12, v13, v14, v15, v16, .int (zI ((w : Nat) : Int)), .int (zI ((le : Nat) : Int)), .int (zB (ra)), .int (zB (rl)), .ref (qn), v22, v23, v24, v25, v26, .ref (qr), .int (zI ((es : Nat) : Int)), .int (zI ((un : Nat) : Int)), .ref (qh), .ref (qi), .int (zB (true)), .ref (qe), .ref (qm), .int (zI ((lv1_4 : Nat) : Int)), .ref (qv), v37, v38, v39, .ref (ql), v41, v42, v43, v44])), (qn, .inl (dA 3, 66, .inl (fun jz => zI (nw jz)))), (qe, .inl (dA 3, 65536, .inl (fun jz => zI (eo1_1 jz)))), (qm, .inl (dA 3, 301, .inl (fun jz => zI (lm1_2 jz)))), (qv, .inl (dA 3, 301, .inl (fun jz => zI (la1_3 jz)))), (ql, .inl (dA 3, 1024, .inl (fun jz => zI (hf1_5 jz))))]) [3, 0, 4, 1, 2, 5] (by decide) rfl
            have hp_75 : hlS (eM w le (rgOf ra rl) nw) (w * le) ((fun s => decide (eM w le (rgOf ra rl) nw s = Lat w le (rgOf ra rl) nw 0))) hf1_5 ∧ ∀ s, s < 2 ^ (w * le) → hlD1 (eM w le (rgOf ra rl) nw) (w * le) hf1_5 s := hp_75
            refine W.widen (k := 0) (n := 0) (Nat.le_of_ble_eq_true rfl) (Nat.le_of_ble_eq_true rfl) ?_
            refine lv_aload_n hx hb dX9_hill_78 rfl (lv_at hl 0 rfl) ?_
            refine z_get C hP 0 rfl rfl in_X9 40 (by decide) q1924 rfl dX9_hill_79 ?_
            refine lv_iload_n hx hb dX9_hill_82 rfl (lv_at hl 1 rfl) ?_
            refine z_iald C hP 5 rfl (xn) rfl (by omega) (by decide) dX9_hill_83 ?_
            exact z_iretG C hlk hr hQ ⟨eo1_1, lm1_2, la1_3, lv1_4, true, hf1_5, hf1_5 xn⟩ rfl ⟨⟨fun _ => hp_22.1, hp_22.2⟩, ⟨fun _ => by rw [Int.toNat_natCast]; exact hl_val hp_75.1 hp_75.2 (by omega) hex, fun q => absurd ⟨c_5, by omega⟩ q⟩⟩ (hP.sub [0, 1, 2, 3, 4, 5] rfl) (hD.sub [0, 1, 2, 3, 4, 5] (by decide) rfl) hS (Nat.le_of_ble_eq_true rfl) (Nat.le_of_ble_eq_true rfl) dX9_hill_84
          · refine lv_aload_n hx hb dX9_hill_35 rfl (lv_at hl 0 rfl) ?_
            refine z_get C hP 0 rfl rfl in_X9 40 (by decide) q1924 rfl dX9_hill_36 ?_
            refine lv_iload_n hx hb dX9_hill_39 rfl (lv_at hl 2 rfl) ?_
            refine lv_aload_n hx hb dX9_hill_40 rfl (lv_at hl 0 rfl) ?_
            refine z_get C hP 0 rfl rfl in_X9 33 (by decide) q1917 rfl dX9_hill_41 ?_
            refine lv_iload_n hx hb dX9_hill_44 rfl (lv_at hl 2 rfl) ?_
            refine z_iald C hP 2 rfl (i) rfl (by omega) (by decide) dX9_hill_45 ?_
            have q9 := hp_22.1.1 i (by omega)
            have b9 := hp_22.2 i
            refine lv_aload_n hx hb dX9_hill_46 rfl (lv_at hl 0 rfl) ?_
            refine z_get C hP 0 rfl rfl in_X9 36 (by decide) q1920 rfl dX9_hill_47 ?_
            refine z_iconst C dX9_hill_50 ?_
            refine z_iald C hP 4 rfl (0) rfl (by omega) (by decide) dX9_hill_51 ?_
            rw [l0.1]
            refine z_icmp_ne (tgt := 64) C ⟨by omega, by omega⟩ ⟨by omega, by omega⟩ dX9_hill_52 (by decide) (fun c_52 => ?_) (fun c_52 => ?_)
            · refine z_ldcw C (100000) q2186 rfl dX9_hill_64 ?_
              refine z_iast C hP hD hS 5 rfl (i) rfl (by omega) (by decide) (v := 100000) (ws' := [(a, .inr (9, [v0, v1, v2, v3, v4, v5, v6, v7, v8, v9, v10, v11, v12, v13, v14, v15, v16, .int (zI ((w : Nat) : Int)), .int (zI ((le : Nat) : Int)), .int (zB (ra)), .int (zB (rl)), .ref (qn), v22, v23, v24, v25, v26, .ref (qr), .int (zI ((es : Nat) : Int)), .int (zI ((un : Nat) : Int)), .ref (qh), .ref (qi), .int (zB (true)), .ref (qe), .ref (qm), .int (zI ((lv1_4 : Nat) : Int)), .ref (qv), v37, v38, v39, .ref (ql), v41, v42, v43, v44])), (qn, .inl (dA 3, 66, .inl (fun jz => zI (nw jz)))), (qe, .inl (dA 3, 65536, .inl (fun jz => zI (eo1_1 jz)))), (qm, .inl (dA 3, 301, .inl (fun jz => zI (lm1_2 jz)))), (qv, .inl (dA 3, 301, .inl (fun jz => zI (la1_3 jz)))), (ql, .inl (dA 3, 1024, .inl (fun jz => zI ((va_up hg i 100000) jz))))]) rfl dX9_hill_67 (fun H locs hP hD hS => ?_)
              refine lv_iinc (v := zI ((i + 1 : Nat) : Int)) (lv' := [(2, .int (zI ((i + 1 : Nat) : Int))), (0, .ref (a)), (1, .int (zI ((xn : Nat) : Int)))]) hx hb dX9_hill_68 hl (k := 2) rfl (zI_inc (by omega)) (by decide) rfl (fun ls hl => ?_)
              refine lv_goto (tgt := 27) hx hb dX9_hill_71 (by decide) ?_
              exact ih27 (i + 1) ((va_up hg i 100000)) (by first | with_reducible assumption | omega | with_reducible rfl) (by first | exact hlI_t hl9 (decide_eq_true (by omega)) (by omega) (by omega) | exact hlI_f hl9 (decide_eq_false (by omega))) (by omega) H locs hP hD hS ls (lv_sub hl [1, 2, 0] rfl)
            · refine lv_aload_n hx hb dX9_hill_55 rfl (lv_at hl 0 rfl) ?_
              refine z_get C hP 0 rfl rfl in_X9 36 (by decide) q1920 rfl dX9_hill_56 ?_
              refine z_iconst C dX9_hill_59 ?_
              refine z_iald C hP 4 rfl (0) rfl (by omega) (by decide) dX9_hill_60 ?_
              rw [l0.1]
              refine lv_goto (tgt := 67) hx hb dX9_hill_61 (by decide) ?_
              refine z_iast C hP hD hS 5 rfl (i) rfl (by omega) (by decide) (v := (Lat w le (rgOf ra rl) nw 0)) (ws' := [(a, .inr (9, [v0, v1, v2, v3, v4, v5, v6, v7, v8, v9, v10, v11, v12, v13, v14, v15, v16, .int (zI ((w : Nat) : Int)), .int (zI ((le : Nat) : Int)), .int (zB (ra)), .int (zB (rl)), .ref (qn), v22, v23, v24, v25, v26, .ref (qr), .int (zI ((es : Nat) : Int)), .int (zI ((un : Nat) : Int)), .ref (qh), .ref (qi), .int (zB (true)), .ref (qe), .ref (qm), .int (zI ((lv1_4 : Nat) : Int)), .ref (qv), v37, v38, v39, .ref (ql), v41, v42, v43, v44])), (qn, .inl (dA 3, 66, .inl (fun jz => zI (nw jz)))), (qe, .inl (dA 3, 65536, .inl (fun jz => zI (eo1_1 jz)))), (qm, .inl (dA 3, 301, .inl (fun jz => zI (lm1_2 jz)))), (qv, .inl (dA 3, 301, .inl (fun jz => zI (la1_3 jz)))), (ql, .inl (dA 3, 1024, .inl (fun jz => zI ((va_up hg i (Lat w le (rgOf ra rl) nw 0)) jz))))]) rfl dX9_hill_67 (fun H locs hP hD hS => ?_)
              refine lv_iinc (v := zI ((i + 1 : Nat) : Int)) (lv' := [(2, .int (zI ((i + 1 : Nat) : Int))), (0, .ref (a)), (1, .int (zI ((xn : Nat) : Int)))]) hx hb dX9_hill_68 hl (k := 2) rfl (zI_inc (by omega)) (by decide) rfl (fun ls hl => ?_)
              refine lv_goto (tgt := 27) hx hb dX9_hill_71 (by decide) ?_
              exact ih27 (i + 1) ((va_up hg i (Lat w le (rgOf ra rl) nw 0))) (by first | with_reducible assumption | omega | with_reducible rfl) (by first | exact hlI_t hl9 (decide_eq_true (by omega)) (by omega) (by omega) | exact hlI_f hl9 (decide_eq_false (by omega))) (by omega) H locs hP hD hS ls (lv_sub hl [1, 2, 0] rfl)
      exact L27 ((nst w le - 0) + 1) (0) (hl0) (by first | with_reducible assumption | omega | with_reducible rfl) hlI_0 (by omega) H locs hP hD hS ls (lv_sub hl [1, 2, 0] rfl)
    · refine z_ldcw C (-100000) q2215 rfl dX9_hill_17 ?_
      exact z_iretG C hlk hr hQ ⟨eo, lm, la, lv, kn, hl0, -100000⟩ rfl ⟨⟨hkn, be⟩, ⟨fun q => absurd q (by first | (intro y; rw [c_5] at y; exact absurd y.1 (by decide)) | omega), fun _ => rfl⟩⟩ (hP.sub [0, 1, 2, 3, 4, 5] rfl) (hD.sub [0, 1, 2, 3, 4, 5] (by decide) rfl) hS (Nat.le_of_ble_eq_true rfl) (Nat.le_of_ble_eq_true rfl) dX9_hill_20
set_option maxHeartbeats 600000 in
set_option maxRecDepth 100000 in
theorem k_X9_pass (l : Launch) (D : va_G) (dA : Nat → ClassId) (a : Nat) (v0 v1 v2 v3 v4 v5 v6 v7 v8 v9 v10 v11 v12 v13 v14 v15 v16 v22 v23 v24 v25 v26 v37 v38 v39 v41 v42 v43 v44 : Value) (w le lv es un qn qe qm qv qr qh qi ql : Nat) (ra rl kn : Bool) (nw eo lm la : Nat → Int) (hl0 : Nat → Int) (x y : Int) (hwl : w * le ≤ 16) (hle : le ≤ 16) (b3 : ∀ j, j < 48 → -3 ≤ nw j ∧ nw j ≤ 3) (bo : ∀ j, -1000000 ≤ nw j ∧ nw j ≤ 1000000) (be : ∀ j, -100000 ≤ eo j ∧ eo j ≤ 100000) (hkn : kn = true → KnP w le (rgOf ra rl) nw eo lm lv la) (h1 : zR x) (h2 : zR y) : zG (S := (Nat → Int) × (Nat → Int) × (Nat → Int) × Nat × Bool × (Nat → Int) × Int) l yX9_pass cX9_pass 4 (some .int) (zRmW 4 96 0 0) D dA [.ref (a), .int (zI (x)), .int (zI (y))] [(a, .inr (9, [v0, v1, v2, v3, v4, v5, v6, v7, v8, v9, v10, v11, v12, v13, v14, v15, v16, .int (zI ((w : Nat) : Int)), .int (zI ((le : Nat) : Int)), .int (zB (ra)), .int (zB (rl)), .ref (qn), v22, v23, v24, v25, v26, .ref (qr), .int (zI ((es : Nat) : Int)), .int (zI ((un : Nat) : Int)), .ref (qh), .ref (qi), .int (zB (kn)), .ref (qe), .ref (qm), .int (zI ((lv : Nat) : Int)), .ref (qv), v37, v38, v39, .ref (ql), v41, v42, v43, v44])), (qn, .inl (dA 3, 66, .inl (fun jz => zI (nw jz)))), (qe, .inl (dA 3, 65536, .inl (fun jz => zI (eo jz)))), (qm, .inl (dA 3, 301, .inl (fun jz => zI (lm jz)))), (qv, .inl (dA 3, 301, .inl (fun jz => zI (la jz)))), (ql, .inl (dA 3, 1024, .inl (fun jz => zI (hl0 jz))))] (fun u : (Nat → Int) × (Nat → Int) × (Nat → Int) × Nat × Bool × (Nat → Int) × Int => some (.int (zI (u.2.2.2.2.2.2)))) (fun u : (Nat → Int) × (Nat → Int) × (Nat → Int) × Nat × Bool × (Nat → Int) × Int => ((u.2.2.2.2.1 = true → KnP w le (rgOf ra rl) nw u.1 u.2.1 u.2.2.2.1 u.2.2.1) ∧ ∀ j, -100000 ≤ u.1 j ∧ u.1 j ≤ 100000) ∧ (((lawMZ w le nw x = true ∧ lawMZ w le nw y = true) ∧ w * le ≤ 10) → hlV (eM w le (rgOf ra rl) nw) (w * le) (fun s => decide (s = y.toNat)) x.toNat u.2.2.2.2.2.2) ∧ (¬ ((lawMZ w le nw x = true ∧ lawMZ w le nw y = true) ∧ w * le ≤ 10) → u.2.2.2.2.2.2 = -100000)) (fun u : (Nat → Int) × (Nat → Int) × (Nat → Int) × Nat × Bool × (Nat → Int) × Int => [(a, .inr (9, [v0, v1, v2, v3, v4, v5, v6, v7, v8, v9, v10, v11, v12, v13, v14, v15, v16, .int (zI ((w : Nat) : Int)), .int (zI ((le : Nat) : Int)), .int (zB (ra)), .int (zB (rl)), .ref (qn), v22, v23, v24, v25, v26, .ref (qr), .int (zI ((es : Nat) : Int)), .int (zI ((un : Nat) : Int)), .ref (qh), .ref (qi), .int (zB (u.2.2.2.2.1)), .ref (qe), .ref (qm), .int (zI ((u.2.2.2.1 : Nat) : Int)), .ref (qv), v37, v38, v39, .ref (ql), v41, v42, v43, v44])), (qn, .inl (dA 3, 66, .inl (fun jz => zI (nw jz)))), (qe, .inl (dA 3, 65536, .inl (fun jz => zI (u.1 jz)))), (qm, .inl (dA 3, 301, .inl (fun jz => zI (u.2.1 jz)))), (qv, .inl (dA 3, 301, .inl (fun jz => zI (u.2.2.1 jz)))), (ql, .inl (dA 3, 1024, .inl (fun jz => zI (u.2.2.2.2.2.1 jz))))]) := by
  refine zG.of (by decide +kernel) rfl ?_
  intro pp ee ss mm args below meth cd Q A C hr hlk hQ hA hin H locs hP hD hS ls hl
  have hx := C.1.1
  have hb := C.1.2.1
  have hl : lv_has ls 4 [(0, .ref (a)), (1, .int (zI (x))), (2, .int (zI (y)))] := hl
  have hns : nst w le ≤ 65536 := nst_le hwl
  refine lv_aload_n hx hb dX9_pass_0 rfl (lv_at hl 0 rfl) ?_
  refine lv_iload_n hx hb dX9_pass_1 rfl (lv_at hl 1 rfl) ?_
  refine z_cV (n := 1) (As := [.int (zI (x))]) (rest := []) C hP (k_X9_isLawful l D dA (a) (v0) (v1) (v2) (v3) (v4) (v5) (v6) (v7) (v8) (v9) (v10) (v11) (v12) (v13) (v14) (v15) (v16) (v22) (v23) (v24) (v25) (v26) (.ref (qr)) (.int (zI ((es : Nat) : Int))) (.int (zI ((un : Nat) : Int))) (.ref (qh)) (.ref (qi)) (.int (zB (kn))) (.ref (qe)) (.ref (qm)) (.int (zI ((lv : Nat) : Int))) (.ref (qv)) (v37) (v38) (v39) (.ref (ql)) (v41) (v42) (v43) (v44) (w) (le) (ra) (rl) (qn) (nw) ((x)) (by first | with_reducible assumption | omega | with_reducible rfl) (by first | with_reducible assumption | omega | with_reducible rfl) (by first | with_reducible assumption | omega | with_reducible rfl)) (lw_V q2175 q2177 qs86 q124 q2178) (by decide +kernel) rfl ⟨Nat.le_of_ble_eq_true rfl, Nat.le_of_ble_eq_true rfl⟩ hl.1 (hP.sub [0, 1] rfl) 0 rfl rfl rfl (Nat.le_of_ble_eq_true rfl) dX9_pass_2 (Nat.zero_le _) (Nat.zero_le _) ?_
  refine z_if_eqB (tgt := 25) C dX9_pass_5 (by decide) (fun c_5 => ?_) (fun c_5 => ?_)
  · refine z_ldcw C (-100000) q2215 rfl dX9_pass_25 ?_
    exact z_iretG C hlk hr hQ ⟨eo, lm, la, lv, kn, hl0, -100000⟩ rfl ⟨⟨hkn, be⟩, ⟨fun q => absurd q (by first | (intro y; rw [c_5] at y; exact absurd y.1.1 (by decide)) | (intro y; rw [c_13] at y; exact absurd y.1.2 (by decide)) | omega), fun _ => rfl⟩⟩ (hP.sub [0, 1, 2, 3, 4, 5] rfl) (hD.sub [0, 1, 2, 3, 4, 5] (by decide) rfl) hS (Nat.le_of_ble_eq_true rfl) (Nat.le_of_ble_eq_true rfl) dX9_pass_28
  · refine lv_aload_n hx hb dX9_pass_8 rfl (lv_at hl 0 rfl) ?_
    refine lv_iload_n hx hb dX9_pass_9 rfl (lv_at hl 2 rfl) ?_
    refine z_cV (n := 1) (As := [.int (zI (y))]) (rest := []) C hP (k_X9_isLawful l D dA (a) (v0) (v1) (v2) (v3) (v4) (v5) (v6) (v7) (v8) (v9) (v10) (v11) (v12) (v13) (v14) (v15) (v16) (v22) (v23) (v24) (v25) (v26) (.ref (qr)) (.int (zI ((es : Nat) : Int))) (.int (zI ((un : Nat) : Int))) (.ref (qh)) (.ref (qi)) (.int (zB (kn))) (.ref (qe)) (.ref (qm)) (.int (zI ((lv : Nat) : Int))) (.ref (qv)) (v37) (v38) (v39) (.ref (ql)) (v41) (v42) (v43) (v44) (w) (le) (ra) (rl) (qn) (nw) ((y)) (by first | with_reducible assumption | omega | with_reducible rfl) (by first | with_reducible assumption | omega | with_reducible rfl) (by first | with_reducible assumption | omega | with_reducible rfl)) (lw_V q2175 q2177 qs86 q124 q2178) (by decide +kernel) rfl ⟨Nat.le_of_ble_eq_true rfl, Nat.le_of_ble_eq_true rfl⟩ hl.1 (hP.sub [0, 1] rfl) 0 rfl rfl rfl (Nat.le_of_ble_eq_true rfl) dX9_pass_10 (Nat.zero_le _) (Nat.zero_le _) ?_
    refine z_if_eqB (tgt := 25) C dX9_pass_13 (by decide) (fun c_13 => ?_) (fun c_13 => ?_)
    · refine z_ldcw C (-100000) q2215 rfl dX9_pass_25 ?_
      exact z_iretG C hlk hr hQ ⟨eo, lm, la, lv, kn, hl0, -100000⟩ rfl ⟨⟨hkn, be⟩, ⟨fun q => absurd q (by first | (intro y; rw [c_5] at y; exact absurd y.1.1 (by decide)) | (intro y; rw [c_13] at y; exact absurd y.1.2 (by decide)) | omega), fun _ => rfl⟩⟩ (hP.sub [0, 1, 2, 3, 4, 5] rfl) (hD.sub [0, 1, 2, 3, 4, 5] (by decide) rfl) hS (Nat.le_of_ble_eq_true rfl) (Nat.le_of_ble_eq_true rfl) dX9_pass_28
    · refine lv_aload_n hx hb dX9_pass_16 rfl (lv_at hl 0 rfl) ?_
      refine z_cV (n := 0) (As := []) (rest := []) C hP (k_X9_sites l D dA (a) (v0) (v1) (v2) (v3) (v4) (v5) (v6) (v7) (v8) (v9) (v10) (v11) (v12) (v13) (v14) (v15) (v16) (v22) (v23) (v24) (v25) (v26) (.ref (qr)) (.int (zI ((es : Nat) : Int))) (.int (zI ((un : Nat) : Int))) (.ref (qh)) (.ref (qi)) (.int (zB (kn))) (.ref (qe)) (.ref (qm)) (.int (zI ((lv : Nat) : Int))) (.ref (qv)) (v37) (v38) (v39) (.ref (ql)) (v41) (v42) (v43) (v44) (w) (le) (ra) (rl) (qn)) (lw_V q2112 q2114 qs80 q124 q2115) (by decide +kernel) rfl ⟨Nat.le_of_ble_eq_true rfl, Nat.le_of_ble_eq_true rfl⟩ hl.1 (hP.sub [0] rfl) 0 rfl rfl rfl (Nat.le_of_ble_eq_true rfl) dX9_pass_17 (Nat.zero_le _) (Nat.zero_le _) ?_
      refine z_bipush C dX9_pass_20 rfl ?_
      refine z_icmp_le (tgt := 29) C ⟨by omega, by omega⟩ ⟨by decide, by decide⟩ dX9_pass_22 (by decide) (fun c_22 => ?_) (fun c_22 => ?_)
      · have hx9 := lawMZ_in c_5
        obtain ⟨xn, rfl⟩ : ∃ q : Nat, x = (q : Int) := ⟨x.toNat, by omega⟩
        rw [Int.toNat_natCast] at hx9
        have hx8 : xn < nst w le := by omega
        have hnp := nst_pow hx8
        have hns2 : nst w le ≤ 1024 := nst_le10 (by omega)
        have h00 := nst_ne hx8
        have hy9 := lawMZ_in c_13
        obtain ⟨yn, rfl⟩ : ∃ q : Nat, y = (q : Int) := ⟨y.toNat, by omega⟩
        rw [Int.toNat_natCast] at hy9
        have hy8 : yn < nst w le := by omega
        refine lv_aload_n hx hb dX9_pass_29 rfl (lv_at hl 0 rfl) ?_
        refine z_gV (n := 0) (As := []) (rest := []) (wc := [(a, .inr (9, [v0, v1, v2, v3, v4, v5, v6, v7, v8, v9, v10, v11, v12, v13, v14, v15, v16, .int (zI ((w : Nat) : Int)), .int (zI ((le : Nat) : Int)), .int (zB (ra)), .int (zB (rl)), .ref (qn), v22, v23, v24, v25, v26, .ref (qr), .int (zI ((es : Nat) : Int)), .int (zI ((un : Nat) : Int)), .ref (qh), .ref (qi), .int (zB (kn)), .ref (qe), .ref (qm), .int (zI ((lv : Nat) : Int)), .ref (qv), v37, v38, v39, .ref (ql), v41, v42, v43, v44])), (qn, .inl (dA 3, 66, .inl (fun jz => zI (nw jz)))), (qe, .inl (dA 3, 65536, .inl (fun jz => zI (eo jz)))), (qm, .inl (dA 3, 301, .inl (fun jz => zI (lm jz)))), (qv, .inl (dA 3, 301, .inl (fun jz => zI (la jz))))]) (wr := [(ql, .inl (dA 3, 1024, .inl (fun jz => zI (hl0 jz))))]) C hP hD hS hA [0, 1, 2, 3, 4] [5] rfl rfl (by decide) (by decide) (by decide) (k_X9_knows l D dA (a) (v0) (v1) (v2) (v3) (v4) (v5) (v6) (v7) (v8) (v9) (v10) (v11) (v12) (v13) (v14) (v15) (v16) (v22) (v23) (v24) (v25) (v26) (v37) (v38) (v39) (.ref (ql)) (v41) (v42) (v43) (v44) (w) (le) (lv) (es) (un) (qn) (qe) (qm) (qv) (qr) (qh) (qi) (ra) (rl) (kn) (nw) (eo) (lm) (la) (by first | with_reducible assumption | omega | with_reducible rfl) (by first | with_reducible assumption | omega | with_reducible rfl) (by first | with_reducible assumption | omega | with_reducible rfl) (by first | with_reducible assumption | omega | with_reducible rfl) (by first | with_reducible assumption | omega | with_reducible rfl) (by first | with_reducible assumption | omega | with_reducible rfl)) (lw_V q2167 q2169 qs84 q124 q2170) (by decide +kernel) rfl ⟨Nat.le_of_ble_eq_true rfl, Nat.le_of_ble_eq_true rfl⟩ hl.1 0 rfl rfl rfl (Nat.le_of_ble_eq_true rfl) dX9_pass_30 (by decide) (by decide) (fun u_30 H locs hp_30 hP hD hS _ => ?_)
        obtain ⟨eo1_1, lm1_2, la1_3, lv1_4⟩ := u_30
        have hP := hP.sub (ws' := [(a, .inr (9, [v0, v1, v2, v3, v4, v5, v6, v7, v8, v9, v10, v11, v12, v13, v14, v15, v16, .int (zI ((w : Nat) : Int)), .int (zI ((le : Nat) : Int)), .int (zB (ra)), .int (zB (rl)), .ref (qn), v22, v23, v24, v25, v26, .ref (qr), .int (zI ((es : Nat) : Int)), .int (zI ((un : Nat) : Int)), .ref (qh), .ref (qi), .int (zB (true)), .ref (qe), .ref (qm), .int (zI ((lv1_4 : Nat) : Int)), .ref (qv), v37, v38, v39, .ref (ql), v41, v42, v43, v44])), (qn, .inl (dA 3, 66, .inl (fun jz => zI (nw jz)))), (qe, .inl (dA 3, 65536, .inl (fun jz => zI (eo1_1 jz)))), (qm, .inl (dA 3, 301, .inl (fun jz => zI (lm1_2 jz)))), (qv, .inl (dA 3, 301, .inl (fun jz => zI (la1_3 jz)))), (ql, .inl (dA 3, 1024, .inl (fun jz => zI (hl0 jz))))]) [1, 2, 3, 4, 5, 0] rfl
        have hD := hD.sub (ws' := [(a, .inr (9, [v0, v1, v2, v3, v4, v5, v6, v7, v8, v9, v10, v11, v12, v13, v14, v15, v16, .int (zI ((w : Nat) : Int)), .int (zI ((le : Nat) : Int)), .int (zB (ra)), .int (zB (rl)), .ref (qn), v22, v23, v24, v25, v26, .ref (qr), .int (zI ((es : Nat) : Int)), .int (zI ((un : Nat) : Int)), .ref (qh), .ref (qi), .int (zB (true)), .ref (qe), .ref (qm), .int (zI ((lv1_4 : Nat) : Int)), .ref (qv), v37, v38, v39, .ref (ql), v41, v42, v43, v44])), (qn, .inl (dA 3, 66, .inl (fun jz => zI (nw jz)))), (qe, .inl (dA 3, 65536, .inl (fun jz => zI (eo1_1 jz)))), (qm, .inl (dA 3, 301, .inl (fun jz => zI (lm1_2 jz)))), (qv, .inl (dA 3, 301, .inl (fun jz => zI (la1_3 jz)))), (ql, .inl (dA 3, 1024, .inl (fun jz => zI (hl0 jz))))]) [1, 2, 3, 4, 5, 0] (by decide) rfl
        have hp_30 : KnP w le (rgOf ra rl) nw eo1_1 lm1_2 lv1_4 la1_3 ∧ ∀ j, -100000 ≤ eo1_1 j ∧ eo1_1 j ≤ 100000 := hp_30
        refine W.widen (k := 0) (n := 0) (Nat.le_of_ble_eq_true rfl) (Nat.le_of_ble_eq_true rfl) ?_
        have hex := hill_ex (rg := rgOf ra rl) (T := (fun s => decide (s = yn))) hwl b3 hx9.2 hy9.2 (decide_eq_true rfl)
        refine z_iconst C dX9_pass_33 ?_
        refine lv_istore_n (lv' := [(3, .int (zI 0)), (0, .ref (a)), (1, .int (zI ((xn : Nat) : Int))), (2, .int (zI ((yn : Nat) : Int)))]) hx hb dX9_pass_34 rfl hl (by decide) rfl (fun ls hl => ?_)
        have L35 : ∀ (N : Nat) (i : Nat) (hg : Nat → Int), (i ≤ nst w le) → (hlI (eM w le (rgOf ra rl) nw) (fun s => decide (s = yn)) hg i) → (nst w le - i) < N → ∀ (H : Heap) (locs : List Loc), va_P D vwCl [(a, .inr (9, [v0, v1, v2, v3, v4, v5, v6, v7, v8, v9, v10, v11, v12, v13, v14, v15, v16, .int (zI ((w : Nat) : Int)), .int (zI ((le : Nat) : Int)), .int (zB (ra)), .int (zB (rl)), .ref (qn), v22, v23, v24, v25, v26, .ref (qr), .int (zI ((es : Nat) : Int)), .int (zI ((un : Nat) : Int)), .ref (qh), .ref (qi), .int (zB (true)), .ref (qe), .ref (qm), .int (zI ((lv1_4 : Nat) : Int)), .ref (qv), v37, v38, v39, .ref (ql), v41, v42, v43, v44])), (qn, .inl (dA 3, 66, .inl (fun jz => zI (nw jz)))), (qe, .inl (dA 3, 65536, .inl (fun jz => zI (eo1_1 jz)))), (qm, .inl (dA 3, 301, .inl (fun jz => zI (lm1_2 jz)))), (qv, .inl (dA 3, 301, .inl (fun jz => zI (la1_3 jz)))), (ql, .inl (dA 3, 1024, .inl (fun jz => zI (hg jz))))] H → va_D A [(a, .inr (9, [v0, v1, v2, v3, v4, v5, v6, v7, v8, v9, v10, v11, v12, v13, v14, v15, v16, .int (zI ((w : Nat) : Int)), .int (zI ((le : Nat) : Int)), .int (zB (ra)), .int (zB (rl)), .ref (qn), v22, v23, v24, v25, v26, .ref (qr), .int (zI ((es : Nat) : Int)), .int (zI ((un : Nat) : Int)), .ref (qh), .ref (qi), .int (zB (true)), .ref (qe), .ref (qm), .int (zI ((lv1_4 : Nat) : Int)), .ref (qv), v37, v38, v39, .ref (ql), v41, v42, v43, v44])), (qn, .inl (dA 3, 66, .inl (fun jz => zI (nw jz)))), (qe, .inl (dA 3, 65536, .inl (fun jz => zI (eo1_1 jz)))), (qm, .inl (dA 3, 301, .inl (fun jz => zI (lm1_2 jz)))), (qv, .inl (dA 3, 301, .inl (fun jz => zI (la1_3 jz)))), (ql, .inl (dA 3, 1024, .inl (fun jz => zI (hg jz))))] → va_S A ss.heap H locs → ∀ ls : Array Slot, lv_has ls 4 [(0, .ref (a)), (1, .int (zI ((xn : Nat) : Int))), (2, .int (zI ((yn : Nat) : Int))), (3, .int (zI ((i : Nat) : Int)))] → W pp l ee (zRmW 4 96 0 0) ss mm args below meth cd H locs 0 0 Q (F0 mm 35 ls []) := by
          intro N
          induction N with
          | zero => intro i hg _ _ hm; exact absurd hm (Nat.not_lt_zero _)
          | succ N ih35 =>
            intro i hg hi hl9 hmz35 H locs hP hD hS ls hl
            refine lv_iload_n hx hb dX9_pass_35 rfl (lv_at hl 3 rfl) ?_
            refine lv_aload_n hx hb dX9_pass_36 rfl (lv_at hl 0 rfl) ?_
            refine z_cV (n := 0) (As := []) (rest := [.int (zI ((i : Nat) : Int))]) C hP (k_X9_states l D dA (a) (v0) (v1) (v2) (v3) (v4) (v5) (v6) (v7) (v8) (v9) (v10) (v11) (v12) (v13) (v14) (v15) (v16) (v22) (v23) (v24) (v25) (v26) (.ref (qr)) (.int (zI ((es : Nat) : Int))) (.int (zI ((un : Nat) : Int))) (.ref (qh)) (.ref (qi)) (.int (zB (true))) (.ref (qe)) (.ref (qm)) (.int (zI ((lv1_4 : Nat) : Int))) (.ref (qv)) (v37) (v38) (v39) (.ref (ql)) (v41) (v42) (v43) (v44) (w) (le) (ra) (rl) (qn) (by first | with_reducible assumption | omega | with_reducible rfl)) (lw_V q2171 q2173 qs85 q124 q2174) (by decide +kernel) rfl ⟨Nat.le_of_ble_eq_true rfl, Nat.le_of_ble_eq_true rfl⟩ hl.1 (hP.sub [0] rfl) 0 rfl rfl rfl (Nat.le_of_ble_eq_true rfl) dX9_pass_37 (Nat.zero_le _) (Nat.zero_le _) ?_
            refine z_icmp_ge (tgt := 72) C ⟨by omega, by omega⟩ ⟨by omega, by omega⟩ dX9_pass_40 (by decide) (fun c_40 => ?_) (fun c_40 => ?_)
            · refine lv_aload_n hx hb dX9_pass_72 rfl (lv_at hl 0 rfl) ?_
              have hin9 : i = nst w le := by omega
              refine z_gV (n := 0) (As := []) (rest := []) (wc := [(a, .inr (9, [v0, v1, v2, v3, v4, v5, v6, v7, v8, v9, v10, v11, v12, v13, v14, v15, v16, .int (zI ((w : Nat) : Int)), .int (zI ((le : Nat) : Int)), .int (zB (ra)), .int (zB (rl)), .ref (qn), v22, v23, v24, v25, v26, .ref (qr), .int (zI ((es : Nat) : Int)), .int (zI ((un : Nat) : Int)), .ref (qh), .ref (qi), .int (zB (true)), .ref (qe), .ref (qm), .int (zI ((lv1_4 : Nat) : Int)), .ref (qv), v37, v38, v39, .ref (ql), v41, v42, v43, v44])), (qe, .inl (dA 3, 65536, .inl (fun jz => zI (eo1_1 jz)))), (ql, .inl (dA 3, 1024, .inl (fun jz => zI (hg jz))))]) (wr := [(qn, .inl (dA 3, 66, .inl (fun jz => zI (nw jz)))), (qm, .inl (dA 3, 301, .inl (fun jz => zI (lm1_2 jz)))), (qv, .inl (dA 3, 301, .inl (fun jz => zI (la1_3 jz))))]) C hP hD hS hA [0, 2, 5] [1, 3, 4] rfl rfl (by decide) (by decide) (by decide) (k_X9_laysHills l D dA (a) (v0) (v1) (v2) (v3) (v4) (v5) (v6) (v7) (v8) (v9) (v10) (v11) (v12) (v13) (v14) (v15) (v16) (v22) (v23) (v24) (v25) (v26) (.ref (qr)) (.int (zI ((es : Nat) : Int))) (.int (zI ((un : Nat) : Int))) (.ref (qh)) (.ref (qi)) (.int (zB (true))) (.ref (qm)) (.int (zI ((lv1_4 : Nat) : Int))) (.ref (qv)) (v37) (v38) (v39) (v41) (v42) (v43) (v44) (w) (le) (qn) (qe) (ql) (ra) (rl) (eo1_1) (hg) (eM w le (rgOf ra rl) nw) ((fun s => decide (s = yn))) (by omega) h00 (fun s hs => hp_30.1.1 s (by omega)) hp_30.2 (hl_init hl9 (by omega))) (lw_V q2300 q2302 qs97 q124 q2303) (by decide +kernel) rfl ⟨Nat.le_of_ble_eq_true rfl, Nat.le_of_ble_eq_true rfl⟩ hl.1 0 rfl rfl rfl (Nat.le_of_ble_eq_true rfl) dX9_pass_73 (by decide) (by decide) (fun u_73 H locs hp_73 hP hD hS _ => ?_)
              obtain ⟨hf1_5, rfl⟩ : ∃ z, z = u_73 := ⟨_, rfl⟩
              have hP := hP.sub (ws' := [(a, .inr (9, [v0, v1, v2, v3, v4, v5, v6, v7, v8, v9, v10, v11, v12, v13, v14, v15, v16, .int (zI ((w : Nat) : Int)), .int (zI ((le : Nat) : Int)), .int (zB (ra)), .int (zB (rl)), .ref (qn), v22, v23, v24, v25, v26, .ref (qr), .int (zI ((es : Nat) : Int)), .int (zI ((un : Nat) : Int)), .ref (qh), .ref (qi), .int (zB (true)), .ref (qe), .ref (qm), .int (zI ((lv1_4 : Nat) : Int)), .ref (qv), v37, v38, v39, .ref (ql), v41, v42, v43, v44])), (qn, .inl (dA 3, 66, .inl (fun jz => zI (nw jz)))), (qe, .inl (dA 3, 65536, .inl (fun jz => zI (eo1_1 jz)))), (qm, .inl (dA 3, 301, .inl (fun jz => zI (lm1_2 jz)))), (qv, .inl (dA 3, 301, .inl (fun jz => zI (la1_3 jz)))), (ql, .inl (dA 3, 1024, .inl (fun jz => zI (hf1_5 jz))))]) [3, 0, 4, 1, 2, 5] rfl
              have hD := hD.sub (ws' := [(a, .inr (9, [v0, v1, v2, v3, v4, v5, v6, v7, v8, v9, v10, v11, v12, v13, v14, v15, v16, .int (zI ((w : Nat) : Int)), .int (zI ((le : Nat) : Int)), .int (zB (ra)), .int (zB (rl)), .ref (qn), v22, v23, v24, v25, v26, .ref (qr), .int (zI ((es : Nat) : Int)), .int (zI ((un : Nat) : Int)), .ref (qh), .ref (qi), .int (zB (true)), .ref (qe), .ref (qm), .int (zI ((lv1_4 : Nat) : Int)), .ref (qv), v37, v38, v39, .ref (ql), v41, v42, v43, v44])), (qn, .inl (dA 3, 66, .inl (fun jz => zI (nw jz)))), (qe, .inl (dA 3, 65536, .inl (fun jz => zI (eo1_1 jz)))), (qm, .inl (dA 3, 301, .inl (fun jz => zI (lm1_2 jz)))), (qv, .inl (dA 3, 301, .inl (fun jz => zI (la1_3 jz)))), (ql, .inl (dA 3, 1024, .inl (fun jz => zI (hf1_5 jz))))]) [3, 0, 4, 1, 2, 5] (by decide) rfl
              have hp_73 : hlS (eM w le (rgOf ra rl) nw) (w * le) ((fun s => decide (s = yn))) hf1_5 ∧ ∀ s, s < 2 ^ (w * le) → hlD1 (eM w le (rgOf ra rl) nw) (w * le) hf1_5 s := hp_73
              refine W.widen (k := 0) (n := 0) (Nat.le_of_ble_eq_true rfl) (Nat.le_of_ble_eq_true rfl) ?_
              refine lv_aload_n hx hb dX9_pass_76 rfl (lv_at hl 0 rfl) ?_
              refine z_get C hP 0 rfl rfl in_X9 40 (by decide) q1924 rfl dX9_pass_77 ?_
              refine lv_iload_n hx hb dX9_pass_80 rfl (lv_at hl 1 rfl) ?_
              refine z_iald C hP 5 rfl (xn) rfl (by omega) (by decide) dX9_pass_81 ?_
              exact z_iretG C hlk hr hQ ⟨eo1_1, lm1_2, la1_3, lv1_4, true, hf1_5, hf1_5 xn⟩ rfl ⟨⟨fun _ => hp_30.1, hp_30.2⟩, ⟨fun _ => by rw [Int.toNat_natCast, Int.toNat_natCast]; exact hl_val hp_73.1 hp_73.2 (by omega) hex, fun q => absurd ⟨⟨c_5, c_13⟩, by omega⟩ q⟩⟩ (hP.sub [0, 1, 2, 3, 4, 5] rfl) (hD.sub [0, 1, 2, 3, 4, 5] (by decide) rfl) hS (Nat.le_of_ble_eq_true rfl) (Nat.le_of_ble_eq_true rfl) dX9_pass_82
            · refine lv_aload_n hx hb dX9_pass_43 rfl (lv_at hl 0 rfl) ?_
              refine z_get C hP 0 rfl rfl in_X9 40 (by decide) q1924 rfl dX9_pass_44 ?_
              refine lv_iload_n hx hb dX9_pass_47 rfl (lv_at hl 3 rfl) ?_
              refine lv_iload_n hx hb dX9_pass_48 rfl (lv_at hl 3 rfl) ?_
              refine lv_iload_n hx hb dX9_pass_49 rfl (lv_at hl 2 rfl) ?_
              refine z_icmp_ne (tgt := 62) C ⟨by omega, by omega⟩ ⟨by omega, by omega⟩ dX9_pass_50 (by decide) (fun c_50 => ?_) (fun c_50 => ?_)
              · refine z_ldcw C (100000) q2186 rfl dX9_pass_62 ?_
                refine z_iast C hP hD hS 5 rfl (i) rfl (by omega) (by decide) (v := 100000) (ws' := [(a, .inr (9, [v0, v1, v2, v3, v4, v5, v6, v7, v8, v9, v10, v11, v12, v13, v14, v15, v16, .int (zI ((w : Nat) : Int)), .int (zI ((le : Nat) : Int)), .int (zB (ra)), .int (zB (rl)), .ref (qn), v22, v23, v24, v25, v26, .ref (qr), .int (zI ((es : Nat) : Int)), .int (zI ((un : Nat) : Int)), .ref (qh), .ref (qi), .int (zB (true)), .ref (qe), .ref (qm), .int (zI ((lv1_4 : Nat) : Int)), .ref (qv), v37, v38, v39, .ref (ql), v41, v42, v43, v44])), (qn, .inl (dA 3, 66, .inl (fun jz => zI (nw jz)))), (qe, .inl (dA 3, 65536, .inl (fun jz => zI (eo1_1 jz)))), (qm, .inl (dA 3, 301, .inl (fun jz => zI (lm1_2 jz)))), (qv, .inl (dA 3, 301, .inl (fun jz => zI (la1_3 jz)))), (ql, .inl (dA 3, 1024, .inl (fun jz => zI ((va_up hg i 100000) jz))))]) rfl dX9_pass_65 (fun H locs hP hD hS => ?_)
                refine lv_iinc (v := zI ((i + 1 : Nat) : Int)) (lv' := [(3, .int (zI ((i + 1 : Nat) : Int))), (0, .ref (a)), (1, .int (zI ((xn : Nat) : Int))), (2, .int (zI ((yn : Nat) : Int)))]) hx hb dX9_pass_66 hl (k := 3) rfl (zI_inc (by omega)) (by decide) rfl (fun ls hl => ?_)
                refine lv_goto (tgt := 35) hx hb dX9_pass_69 (by decide) ?_
                exact ih35 (i + 1) ((va_up hg i 100000)) (by first | with_reducible assumption | omega | with_reducible rfl) (by first | exact hlI_t hl9 (decide_eq_true (by omega)) (by omega) (by omega) | exact hlI_f hl9 (decide_eq_false (by omega))) (by omega) H locs hP hD hS ls (lv_sub hl [1, 2, 3, 0] rfl)
              · have q9 := hp_30.1.1 i (by omega)
                have b9 := hp_30.2 i
                have eb9 := eM_b (rg := rgOf ra rl) (s := i) hwl b3
                have iy : i = yn := by omega
                have lw9 : eM w le (rgOf ra rl) nw i = enN w le (rgOf ra rl) le nw i (w * le) := eM_t (by rw [iy]; exact hy9.2)
                have lb9 := enN_b (w := w) (le := le) (rg := rgOf ra rl) (rows := le) (s := i) b3 (w * le) hwl
                refine lv_aload_n hx hb dX9_pass_53 rfl (lv_at hl 0 rfl) ?_
                refine z_get C hP 0 rfl rfl in_X9 33 (by decide) q1917 rfl dX9_pass_54 ?_
                refine lv_iload_n hx hb dX9_pass_57 rfl (lv_at hl 3 rfl) ?_
                refine z_iald C hP 2 rfl (i) rfl (by omega) (by decide) dX9_pass_58 ?_
                refine lv_goto (tgt := 65) hx hb dX9_pass_59 (by decide) ?_
                refine z_iast C hP hD hS 5 rfl (i) rfl (by omega) (by decide) (v := (eo1_1 i)) (ws' := [(a, .inr (9, [v0, v1, v2, v3, v4, v5, v6, v7, v8, v9, v10, v11, v12, v13, v14, v15, v16, .int (zI ((w : Nat) : Int)), .int (zI ((le : Nat) : Int)), .int (zB (ra)), .int (zB (rl)), .ref (qn), v22, v23, v24, v25, v26, .ref (qr), .int (zI ((es : Nat) : Int)), .int (zI ((un : Nat) : Int)), .ref (qh), .ref (qi), .int (zB (true)), .ref (qe), .ref (qm), .int (zI ((lv1_4 : Nat) : Int)), .ref (qv), v37, v38, v39, .ref (ql), v41, v42, v43, v44])), (qn, .inl (dA 3, 66, .inl (fun jz => zI (nw jz)))), (qe, .inl (dA 3, 65536, .inl (fun jz => zI (eo1_1 jz)))), (qm, .inl (dA 3, 301, .inl (fun jz => zI (lm1_2 jz)))), (qv, .inl (dA 3, 301, .inl (fun jz => zI (la1_3 jz)))), (ql, .inl (dA 3, 1024, .inl (fun jz => zI ((va_up hg i (eo1_1 i)) jz))))]) rfl dX9_pass_65 (fun H locs hP hD hS => ?_)
                refine lv_iinc (v := zI ((i + 1 : Nat) : Int)) (lv' := [(3, .int (zI ((i + 1 : Nat) : Int))), (0, .ref (a)), (1, .int (zI ((xn : Nat) : Int))), (2, .int (zI ((yn : Nat) : Int)))]) hx hb dX9_pass_66 hl (k := 3) rfl (zI_inc (by omega)) (by decide) rfl (fun ls hl => ?_)
                refine lv_goto (tgt := 35) hx hb dX9_pass_69 (by decide) ?_
                exact ih35 (i + 1) ((va_up hg i (eo1_1 i))) (by first | with_reducible assumption | omega | with_reducible rfl) (by first | exact hlI_t hl9 (decide_eq_true (by omega)) (by omega) (by omega) | exact hlI_f hl9 (decide_eq_false (by omega))) (by omega) H locs hP hD hS ls (lv_sub hl [1, 2, 3, 0] rfl)
        exact L35 ((nst w le - 0) + 1) (0) (hl0) (by first | with_reducible assumption | omega | with_reducible rfl) hlI_0 (by omega) H locs hP hD hS ls (lv_sub hl [1, 2, 3, 0] rfl)
      · refine z_ldcw C (-100000) q2215 rfl dX9_pass_25 ?_
        exact z_iretG C hlk hr hQ ⟨eo, lm, la, lv, kn, hl0, -100000⟩ rfl ⟨⟨hkn, be⟩, ⟨fun q => absurd q (by first | (intro y; rw [c_5] at y; exact absurd y.1.1 (by decide)) | (intro y; rw [c_13] at y; exact absurd y.1.2 (by decide)) | omega), fun _ => rfl⟩⟩ (hP.sub [0, 1, 2, 3, 4, 5] rfl) (hD.sub [0, 1, 2, 3, 4, 5] (by decide) rfl) hS (Nat.le_of_ble_eq_true rfl) (Nat.le_of_ble_eq_true rfl) dX9_pass_28
