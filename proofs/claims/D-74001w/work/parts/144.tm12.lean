/-! TreeMap: what is asked (printed by tools/s_tm7.py) -/
theorem hs_nil {K : Nat → Int} {L : List Nat} {lf rt : Nat → Option Nat} {k : Int} {o : Option Nat} {M L2 : List Nat} (h : hsb K k L lf rt o M L2) (ho : o = none) : nxk K k L = L2.head? :=
  hs_ans h (by obtain ⟨n, L1, e, t, -⟩ := h; rw [ho] at t; rw [tr_none t]; intro y hy; cases hy)
theorem cl_none {K : Nat → Int} {L : List Nat} {root : Option Nat} {lf rt pa : Nat → Option Nat} (h : tmOk K L root lf rt pa) {ch : Nat} {L2 : List Nat} (hc : clb L lf rt ch L2) (hm : ch ∈ L) (hp : pa ch = none) : L2.head? = none := by
  rcases tm_up h hm with q | ⟨x, _, q, _⟩
  · rw [cl_top h hc q.1]; rfl
  · rw [hp] at q; cases q
theorem cl_else {K : Nat → Int} {L : List Nat} {root : Option Nat} {lf rt pa : Nat → Option Nat} (h : tmOk K L root lf rt pa) {ch q : Nat} {L2 : List Nat} (hc : clb L lf rt ch L2) (hm : ch ∈ L) (hp : pa ch = some q) (hr : ¬ some ch = rt q) : L2.head? = some q := by
  obtain ⟨h1, h2⟩ := tm_pa h hm hp
  exact cl_left h hc h1 (h2.resolve_right (fun z => hr z.symm))
theorem anc_dn {pa : Nat → Option Nat} {n ch q : Nat} (h : anc pa n ch) (hp : pa ch = some q) : ∃ j, j < n ∧ anc pa j q := by
  cases n with
  | zero => have h : pa ch = none := h; rw [h] at hp; cases hp
  | succ n => exact ⟨n, by omega, h q hp⟩
theorem he_none {K : Nat → Int} {L : List Nat} {kk : Int} {e9 : Option Nat} (he : ∀ y, e9 = some y ↔ (y ∈ L ∧ K y = kk)) (h : ∀ y ∈ L, K y ≠ kk) : e9 = none := by
  cases e9 with
  | none => rfl
  | some y => exact absurd ((he y).1 rfl).2 (h y ((he y).1 rfl).1)

set_option maxHeartbeats 600000 in
set_option maxRecDepth 100000 in
theorem k_J4_getFirstEntry (l : Launch) (D : va_G) (dA : Nat → ClassId) (a : Nat) (root : Option Nat) (sz mc : Int) (K : Nat → Int) (L : List Nat) (ke : Nat → Nat) (vl lf rt pa : Nat → Option Nat) (co : Nat → Bool) (hq : tmOk K L root lf rt pa) : zM l yJ4_getFirstEntry cJ4_getFirstEntry 2 (some (.object "java/util/TreeMap$Entry")) (zRm 0 0) D dA [.ref (a)] ([(a, .inr (13, [.null, .null, .null, va_rf (root), .int (zI (sz)), .int (zI (mc)), .null, .null, .null]))] ++ va_pl L (trE ke vl lf rt pa co)) (some (va_rf (L.head?))) := by
  refine zM.of (by decide +kernel) rfl ?_
  intro pp ee ss mm args below meth cd Q C hr hlk hQ hP ls hl
  have hx := C.1.1
  have hb := C.1.2.1
  have hl : lv_has ls 2 [(0, .ref (a))] := hl
  refine lv_aload_n hx hb dJ4_getFirstEntry_0 rfl (lv_at hl 0 rfl) ?_
  refine z_get C hP 0 rfl rfl in_J4 3 (by decide) q392 rfl dJ4_getFirstEntry_1 ?_
  refine z_ostore_n (lv' := [(1, va_rf (root)), (0, .ref (a))]) hx hb dJ4_getFirstEntry_4 rfl hl (by decide) rfl (fun ls hl => ?_)
  refine z_oload_n hx hb dJ4_getFirstEntry_5 rfl (lv_at hl 0 rfl) ?_
  refine z_ifnull (tgt := 24) C dJ4_getFirstEntry_6 (by decide) (fun c_6 => ?_) (fun c_6 => ?_)
  · rw [c_6] at hl
    refine lv_aload_nN hx hb dJ4_getFirstEntry_24 rfl (lv_at hl 0 rfl) ?_
    exact z_aret C hlk hr (Or.inl ⟨_, rfl⟩) (Or.inl rfl) hQ (by first | (rw [tm_nil hq c_6]; rfl) | (rw [show L.head? = some t from ls_end hs9 c_13]; rfl)) dJ4_getFirstEntry_25
  · obtain ⟨y_6_1, hy_6_1⟩ := Option.ne_none_iff_exists'.mp c_6
    rw [hy_6_1] at hl
    have L9 : ∀ (N : Nat) (t : Nat) (M : List Nat), (lsp L lf rt (some t) M) → (M.length) < N → ∀ ls : Array Slot, lv_has ls 2 [(0, .ref (a)), (1, .ref (t))] → W pp l ee (zRm 0 0) ss mm args below meth cd ss.heap [] 0 0 Q (F0 mm 9 ls []) := by
      intro N
      induction N with
      | zero => intro t M _ hm; exact absurd hm (Nat.not_lt_zero _)
      | succ N ih9 =>
        intro t M hs9 hmz9 ls hl
        refine lv_aload_n hx hb dJ4_getFirstEntry_9 rfl (lv_at hl 1 rfl) ?_
        refine z_elf (X := [(a, .inr (13, [.null, .null, .null, va_rf (root), .int (zI (sz)), .int (zI (mc)), .null, .null, .null]))]) C hP (ls_in hs9 rfl) q1284 dJ4_getFirstEntry_10 ?_
        refine z_ifnull (tgt := 24) C dJ4_getFirstEntry_13 (by decide) (fun c_13 => ?_) (fun c_13 => ?_)
        · skip
          refine lv_aload_n hx hb dJ4_getFirstEntry_24 rfl (lv_at hl 1 rfl) ?_
          exact z_aret C hlk hr (Or.inl ⟨_, rfl⟩) (Or.inr ⟨_, rfl⟩) hQ (by first | (rw [tm_nil hq c_6]; rfl) | (rw [show L.head? = some t from ls_end hs9 c_13]; rfl)) dJ4_getFirstEntry_25
        · obtain ⟨y_13_2, hy_13_2⟩ := Option.ne_none_iff_exists'.mp c_13
          refine lv_aload_n hx hb dJ4_getFirstEntry_16 rfl (lv_at hl 1 rfl) ?_
          refine z_elf (X := [(a, .inr (13, [.null, .null, .null, va_rf (root), .int (zI (sz)), .int (zI (mc)), .null, .null, .null]))]) C hP (ls_in hs9 rfl) q1284 dJ4_getFirstEntry_17 ?_
          rw [hy_13_2]
          obtain ⟨M1_9, hs1_9, hm1_9⟩ := ls_left hs9 hy_13_2
          refine lv_astore_n (lv' := [(1, .ref (y_13_2)), (0, .ref (a))]) hx hb dJ4_getFirstEntry_20 rfl hl (by decide) rfl (fun ls hl => ?_)
          refine lv_goto (tgt := 9) hx hb dJ4_getFirstEntry_21 (by decide) ?_
          exact ih9 (y_13_2) (M1_9) hs1_9 (by omega) ls (lv_sub hl [1, 0] rfl)
    exact L9 ((L.length) + 1) (y_6_1) (L) (by rw [← hy_6_1]; exact ls_start hq) (by omega) ls (lv_sub hl [1, 0] rfl)

set_option maxHeartbeats 600000 in
set_option maxRecDepth 100000 in
theorem k_J4_firstKey (l : Launch) (D : va_G) (dA : Nat → ClassId) (x9 : Nat) (a : Nat) (root : Option Nat) (sz mc : Int) (K : Nat → Int) (L : List Nat) (ke : Nat → Nat) (vl lf rt pa : Nat → Option Nat) (co : Nat → Bool) (hq : tmOk K L root lf rt pa) (hx9 : L.head? = some x9) : zM l yJ4_firstKey cJ4_firstKey 1 (some (.object "java/lang/Object")) (zRm 1 21) D dA [.ref (a)] ([(a, .inr (13, [.null, .null, .null, va_rf (root), .int (zI (sz)), .int (zI (mc)), .null, .null, .null]))] ++ va_pl L (trE ke vl lf rt pa co)) (some (.ref (ke x9))) := by
  refine zM.of (by decide +kernel) rfl ?_
  intro pp ee ss mm args below meth cd Q C hr hlk hQ hP ls hl
  have hx := C.1.1
  have hb := C.1.2.1
  have hl : lv_has ls 1 [(0, .ref (a))] := hl
  refine lv_aload_n hx hb dJ4_firstKey_0 rfl (lv_at hl 0 rfl) ?_
  refine z_cV (n := 0) (As := []) (rest := []) C hP (k_J4_getFirstEntry l D dA (a) (root) (sz) (mc) (K) (L) (ke) (vl) (lf) (rt) (pa) (co) (by first | with_reducible assumption | omega | with_reducible rfl)) (lw_V q1367 q1368 q1369 q118 q1370) (by decide +kernel) rfl ⟨Nat.le_of_ble_eq_true rfl, Nat.le_of_ble_eq_true rfl⟩ hl.1 hP 0 rfl rfl rfl (Nat.le_of_ble_eq_true rfl) dJ4_firstKey_1 (Nat.zero_le _) (Nat.zero_le _) ?_
  rw [hx9]
  refine z_cS (n := 1) (As := [.ref (x9)]) (rest := []) C (k_J4_key l D dA (x9) (L) (ke) (vl) (lf) (rt) (pa) (co) (by cases L with | nil => cases hx9 | cons a9 M9 => cases hx9; exact List.mem_cons_self)) (lw_S q1371 q1372 q118 q1373) (by decide +kernel) rfl ⟨Nat.le_of_ble_eq_true rfl, Nat.le_of_ble_eq_true rfl⟩ hl.1 (P_pool (X := [(a, .inr (13, [.null, .null, .null, va_rf (root), .int (zI (sz)), .int (zI (mc)), .null, .null, .null]))]) hP) rfl (Nat.le_of_ble_eq_true rfl) dJ4_firstKey_4 (Nat.zero_le _) (Nat.zero_le _) ?_
  exact z_aret C hlk hr (Or.inl ⟨_, rfl⟩) (Or.inr ⟨_, rfl⟩) hQ rfl dJ4_firstKey_7

set_option maxHeartbeats 600000 in
set_option maxRecDepth 100000 in
theorem k_J4_getHigherEntry (l : Launch) (D : va_G) (dA : Nat → ClassId) (en : Nat → Nat → Nat) (fz : zFt) (k : Nat) (kk : Int) (a : Nat) (root : Option Nat) (sz mc : Int) (K : Nat → Int) (L : List Nat) (ke : Nat → Nat) (vl lf rt pa : Nat → Option Nat) (co : Nat → Bool) (hq : tmOk K L root lf rt pa) (hv : -2147483648 ≤ kk ∧ kk ≤ 2147483647) (hkf : (k, kk) ∈ fz.1) (hKf : ∀ y, y ∈ L → (ke y, K y) ∈ fz.1) (hKr : ∀ y, y ∈ L → -2147483648 ≤ K y ∧ K y ≤ 2147483647) : zN l yJ4_getHigherEntry cJ4_getHigherEntry 6 (some (.object "java/util/TreeMap$Entry")) (zRm 4 85) en fz D dA [.ref (a), .ref (k)] ([(a, .inr (13, [.null, .null, .null, va_rf (root), .int (zI (sz)), .int (zI (mc)), .null, .null, .null]))] ++ va_pl L (trE ke vl lf rt pa co)) (some (va_rf (nxk K kk L))) := by
  refine zN.of (by decide +kernel) rfl ?_
  intro pp ee ss mm args below meth cd Q C hr hlk hQ hV hP ls hl
  have hx := C.1.1
  have hb := C.1.2.1
  have hl : lv_has ls 6 [(0, .ref (a)), (1, .ref (k))] := hl
  refine lv_aload_n hx hb dJ4_getHigherEntry_0 rfl (lv_at hl 0 rfl) ?_
  refine z_get C hP 0 rfl rfl in_J4 3 (by decide) q392 rfl dJ4_getHigherEntry_1 ?_
  refine z_ostore_n (lv' := [(2, va_rf (root)), (0, .ref (a)), (1, .ref (k))]) hx hb dJ4_getHigherEntry_4 rfl hl (by decide) rfl (fun ls hl => ?_)
  have L5 : ∀ (N : Nat) (t : Option Nat) (M L2 : List Nat), (hsb K kk L lf rt t M L2) → (t = none → L = []) → (M.length) < N → ∀ ls : Array Slot, lv_has ls 6 [(0, .ref (a)), (1, .ref (k)), (2, va_rf (t))] → W pp l ee (zRm 4 85) ss mm args below meth cd ss.heap [] 0 0 Q (F0 mm 5 ls []) := by
    intro N
    induction N with
    | zero => intro t M L2 _ _ hm; exact absurd hm (Nat.not_lt_zero _)
    | succ N ih5 =>
      intro t M L2 hs9 hn9 hmz5 ls hl
      refine z_oload_n hx hb dJ4_getHigherEntry_5 rfl (lv_at hl 2 rfl) ?_
      refine z_ifnull (tgt := 99) C dJ4_getHigherEntry_6 (by decide) (fun c_6 => ?_) (fun c_6 => ?_)
      · rw [c_6] at hl
        refine lv_null C.1.1 C.1.2.1 dJ4_getHigherEntry_99 ?_
        exact z_aret C hlk hr (Or.inl ⟨_, rfl⟩) (Or.inl rfl) hQ (by rw [hn9 c_6]; rfl) dJ4_getHigherEntry_100
      · obtain ⟨y_6_1, hy_6_1⟩ := Option.ne_none_iff_exists'.mp c_6
        rw [hy_6_1] at hl
        subst hy_6_1
        have tL_9 := hs_in hs9 rfl
        refine lv_aload_n hx hb dJ4_getHigherEntry_9 rfl (lv_at hl 0 rfl) ?_
        refine lv_aload_n hx hb dJ4_getHigherEntry_10 rfl (lv_at hl 1 rfl) ?_
        refine lv_aload_n hx hb dJ4_getHigherEntry_11 rfl (lv_at hl 2 rfl) ?_
        refine z_eke (X := [(a, .inr (13, [.null, .null, .null, va_rf (root), .int (zI (sz)), .int (zI (mc)), .null, .null, .null]))]) C hP tL_9 q1281 dJ4_getHigherEntry_12 ?_
        refine z_nV (n := 2) (As := [.ref (k), .ref (ke y_6_1)]) (rest := []) C (hV.sub (fun q9 h9 => by simp at h9; rcases h9 with h9 | h9 <;> rw [h9]; exact hkf; exact hKf y_6_1 tL_9) (fun q9 h9 => by cases h9)) (k_J4_compare l D dA en (a) (k) (ke y_6_1) (root) (sz) (mc) (kk) (K y_6_1) hv (hKr _ tL_9)) (lw_V q1054 q1055 q1056 q118 q1057) (by decide +kernel) rfl ⟨Nat.le_of_ble_eq_true rfl, Nat.le_of_ble_eq_true rfl⟩ hl.1 (hP.sub [0] rfl) (va_recv C.2.1 hP (q0 := 0) rfl rfl) rfl (Nat.le_of_ble_eq_true rfl) dJ4_getHigherEntry_15 (Nat.zero_le _) (Nat.zero_le _) ?_
        refine z_nm (fun cm_2 e_cm_2 => ?_)
        refine lv_istore_n (lv' := [(3, .int (zI (cm_2))), (0, .ref (a)), (1, .ref (k)), (2, .ref (y_6_1))]) hx hb dJ4_getHigherEntry_18 rfl hl (by decide) rfl (fun ls hl => ?_)
        have b_cm : (cm_2 = -1 ∧ kk < K y_6_1) ∨ (cm_2 = 0 ∧ kk = K y_6_1) ∨ (cm_2 = 1 ∧ K y_6_1 < kk) := by rw [e_cm_2]; split; (exact Or.inl ⟨rfl, by assumption⟩); split; (exact Or.inr (Or.inl ⟨rfl, by assumption⟩)); (exact Or.inr (Or.inr ⟨rfl, by omega⟩))
        refine lv_iload_n hx hb dJ4_getHigherEntry_19 rfl (lv_at hl 0 rfl) ?_
        refine z_if_ge (tgt := 40) C ⟨by omega, by omega⟩ dJ4_getHigherEntry_20 (by decide) (fun c_20 => ?_) (fun c_20 => ?_)
        · have hle_9 : K y_6_1 ≤ kk := by omega
          obtain ⟨⟨B_9, hsr_9, hmr_9⟩, hcl_9⟩ := hs_right hq.2.2.1 hs9 hle_9
          refine lv_aload_n hx hb dJ4_getHigherEntry_40 rfl (lv_at hl 3 rfl) ?_
          refine z_ert (X := [(a, .inr (13, [.null, .null, .null, va_rf (root), .int (zI (sz)), .int (zI (mc)), .null, .null, .null]))]) C hP tL_9 q1285 dJ4_getHigherEntry_41 ?_
          refine z_ifnull (tgt := 55) C dJ4_getHigherEntry_44 (by decide) (fun c_44 => ?_) (fun c_44 => ?_)
          · skip
            have hans_9 := hs_nil hsr_9 c_44
            obtain ⟨n_9, hn_9⟩ := tm_anc hq tL_9
            refine lv_aload_n hx hb dJ4_getHigherEntry_55 rfl (lv_at hl 3 rfl) ?_
            refine z_epa (X := [(a, .inr (13, [.null, .null, .null, va_rf (root), .int (zI (sz)), .int (zI (mc)), .null, .null, .null]))]) C hP tL_9 q1287 dJ4_getHigherEntry_56 ?_
            refine z_ostore (lv' := [(4, va_rf (pa y_6_1)), (3, .int (zI (cm_2))), (0, .ref (a)), (1, .ref (k)), (2, .ref (y_6_1))]) hx hb dJ4_getHigherEntry_59 hl (by decide) rfl (fun ls hl => ?_)
            refine lv_aload_n hx hb dJ4_getHigherEntry_61 rfl (lv_at hl 4 rfl) ?_
            refine lv_astore (lv' := [(5, .ref (y_6_1)), (4, va_rf (pa y_6_1)), (3, .int (zI (cm_2))), (0, .ref (a)), (1, .ref (k)), (2, .ref (y_6_1))]) hx hb dJ4_getHigherEntry_62 hl (by decide) (by cases (pa y_6_1) <;> rfl) (fun ls hl => ?_)
            have L64 : ∀ (N : Nat) (q : Option Nat) (ch n : Nat), (clb L lf rt ch L2) → (ch ∈ L) → (q = pa ch) → (anc pa n ch) → (n) < N → ∀ ls : Array Slot, lv_has ls 6 [(0, .ref (a)), (4, va_rf (q)), (5, .ref (ch))] → W pp l ee (zRm 4 85) ss mm args below meth cd ss.heap [] 0 0 Q (F0 mm 64 ls []) := by
              intro N
              induction N with
              | zero => intro q ch n _ _ _ _ hm; exact absurd hm (Nat.not_lt_zero _)
              | succ N ih64 =>
                intro q ch n hc9 hm9 hq9 ha9 hmz64 ls hl
                refine z_oload hx hb dJ4_getHigherEntry_64 (lv_at hl 1 rfl) ?_
                refine z_ifnull (tgt := 93) C dJ4_getHigherEntry_66 (by decide) (fun c_66 => ?_) (fun c_66 => ?_)
                · rw [c_66] at hl
                  refine lv_aloadN hx hb dJ4_getHigherEntry_93 (lv_at hl 1 rfl) ?_
                  exact z_aret C hlk hr (Or.inl ⟨_, rfl⟩) (Or.inl rfl) hQ (by rw [hans_9]; first | (rw [cl_none hq hc9 hm9 (hq9.symm.trans c_66)]; rfl) | (rw [cl_else hq hc9 hm9 hpc_9 c_76]; rfl)) dJ4_getHigherEntry_95
                · obtain ⟨y_66_3, hy_66_3⟩ := Option.ne_none_iff_exists'.mp c_66
                  rw [hy_66_3] at hl
                  have hpc_9 : pa ch = some y_66_3 := hq9.symm.trans hy_66_3
                  have qL_9 := (tm_pa hq hm9 hpc_9).1
                  refine lv_aload hx hb dJ4_getHigherEntry_69 (lv_at hl 2 rfl) ?_
                  refine lv_aload hx hb dJ4_getHigherEntry_71 (lv_at hl 1 rfl) ?_
                  refine z_ert (X := [(a, .inr (13, [.null, .null, .null, va_rf (root), .int (zI (sz)), .int (zI (mc)), .null, .null, .null]))]) C hP qL_9 q1285 dJ4_getHigherEntry_73 ?_
                  refine lv_acmp_ne (rx := some (ch)) (ry := rt y_66_3) (tgt := 93) hx hb dJ4_getHigherEntry_76 (by decide) (fun c_76 => ?_) (fun c_76 => ?_)
                  · refine lv_aload hx hb dJ4_getHigherEntry_93 (lv_at hl 1 rfl) ?_
                    exact z_aret C hlk hr (Or.inl ⟨_, rfl⟩) (Or.inr ⟨_, rfl⟩) hQ (by rw [hans_9]; first | (rw [cl_none hq hc9 hm9 (hq9.symm.trans c_66)]; rfl) | (rw [cl_else hq hc9 hm9 hpc_9 c_76]; rfl)) dJ4_getHigherEntry_95
                  · obtain ⟨j_9, hjn_9, hj_9⟩ := anc_dn ha9 hpc_9
                    refine lv_aload hx hb dJ4_getHigherEntry_79 (lv_at hl 1 rfl) ?_
                    refine lv_astore (lv' := [(5, .ref (y_66_3)), (0, .ref (a)), (4, .ref (y_66_3))]) hx hb dJ4_getHigherEntry_81 hl (by decide) rfl (fun ls hl => ?_)
                    refine lv_aload hx hb dJ4_getHigherEntry_83 (lv_at hl 2 rfl) ?_
                    refine z_epa (X := [(a, .inr (13, [.null, .null, .null, va_rf (root), .int (zI (sz)), .int (zI (mc)), .null, .null, .null]))]) C hP qL_9 q1287 dJ4_getHigherEntry_85 ?_
                    refine z_ostore (lv' := [(4, va_rf (pa y_66_3)), (5, .ref (y_66_3)), (0, .ref (a))]) hx hb dJ4_getHigherEntry_88 hl (by decide) rfl (fun ls hl => ?_)
                    refine lv_goto (tgt := 64) hx hb dJ4_getHigherEntry_90 (by decide) ?_
                    exact ih64 (pa y_66_3) (y_66_3) (j_9) (cl_right hq hc9 qL_9 c_76.symm) qL_9 rfl hj_9 (by omega) ls (lv_sub hl [2, 0, 1] rfl)
            exact L64 ((n_9) + 1) (pa y_6_1) (y_6_1) (n_9) (hcl_9 c_44) tL_9 rfl hn_9 (by omega) ls (lv_sub hl [3, 1, 0] rfl)
          · obtain ⟨y_44_4, hy_44_4⟩ := Option.ne_none_iff_exists'.mp c_44
            refine lv_aload_n hx hb dJ4_getHigherEntry_47 rfl (lv_at hl 3 rfl) ?_
            refine z_ert (X := [(a, .inr (13, [.null, .null, .null, va_rf (root), .int (zI (sz)), .int (zI (mc)), .null, .null, .null]))]) C hP tL_9 q1285 dJ4_getHigherEntry_48 ?_
            rw [hy_44_4]
            refine lv_astore_n (lv' := [(2, .ref (y_44_4)), (3, .int (zI (cm_2))), (0, .ref (a)), (1, .ref (k))]) hx hb dJ4_getHigherEntry_51 rfl hl (by decide) rfl (fun ls hl => ?_)
            refine lv_goto (tgt := 96) hx hb dJ4_getHigherEntry_52 (by decide) ?_
            refine lv_goto (tgt := 5) hx hb dJ4_getHigherEntry_96 (by decide) ?_
            exact ih5 (some (y_44_4)) (B_9) (L2) (by rw [← hy_44_4]; exact hsr_9) (fun e9 => by cases e9) (by omega) ls (lv_sub hl [2, 3, 0] rfl)
        · have hlt_9 : kk < K y_6_1 := by omega
          obtain ⟨A_9, B_9, hsl_9, hml_9⟩ := hs_left hq.2.2.1 hs9 hlt_9
          refine lv_aload_n hx hb dJ4_getHigherEntry_23 rfl (lv_at hl 3 rfl) ?_
          refine z_elf (X := [(a, .inr (13, [.null, .null, .null, va_rf (root), .int (zI (sz)), .int (zI (mc)), .null, .null, .null]))]) C hP tL_9 q1284 dJ4_getHigherEntry_24 ?_
          refine z_ifnull (tgt := 38) C dJ4_getHigherEntry_27 (by decide) (fun c_27 => ?_) (fun c_27 => ?_)
          · skip
            refine lv_aload_n hx hb dJ4_getHigherEntry_38 rfl (lv_at hl 3 rfl) ?_
            exact z_aret C hlk hr (Or.inl ⟨_, rfl⟩) (Or.inr ⟨_, rfl⟩) hQ (by rw [hs_nil hsl_9 c_27]; rfl) dJ4_getHigherEntry_39
          · obtain ⟨y_27_5, hy_27_5⟩ := Option.ne_none_iff_exists'.mp c_27
            refine lv_aload_n hx hb dJ4_getHigherEntry_30 rfl (lv_at hl 3 rfl) ?_
            refine z_elf (X := [(a, .inr (13, [.null, .null, .null, va_rf (root), .int (zI (sz)), .int (zI (mc)), .null, .null, .null]))]) C hP tL_9 q1284 dJ4_getHigherEntry_31 ?_
            rw [hy_27_5]
            refine lv_astore_n (lv' := [(2, .ref (y_27_5)), (3, .int (zI (cm_2))), (0, .ref (a)), (1, .ref (k))]) hx hb dJ4_getHigherEntry_34 rfl hl (by decide) rfl (fun ls hl => ?_)
            refine lv_goto (tgt := 96) hx hb dJ4_getHigherEntry_35 (by decide) ?_
            refine lv_goto (tgt := 5) hx hb dJ4_getHigherEntry_96 (by decide) ?_
            exact ih5 (some (y_27_5)) (A_9) (y_6_1 :: B_9) (by rw [← hy_27_5]; exact hsl_9) (fun e9 => by cases e9) (by omega) ls (lv_sub hl [2, 3, 0] rfl)
  exact L5 ((L.length) + 1) (root) (L) ([]) (hs_start hq kk) (fun e9 => tm_nil hq e9) (by omega) ls (lv_sub hl [1, 2, 0] rfl)

set_option maxHeartbeats 600000 in
set_option maxRecDepth 100000 in
theorem k_J4_higherKey (l : Launch) (D : va_G) (dA : Nat → ClassId) (en : Nat → Nat → Nat) (fz : zFt) (k : Nat) (kk : Int) (a : Nat) (root : Option Nat) (sz mc : Int) (K : Nat → Int) (L : List Nat) (ke : Nat → Nat) (vl lf rt pa : Nat → Option Nat) (co : Nat → Bool) (hq : tmOk K L root lf rt pa) (hv : -2147483648 ≤ kk ∧ kk ≤ 2147483647) (hkf : (k, kk) ∈ fz.1) (hKf : ∀ y, y ∈ L → (ke y, K y) ∈ fz.1) (hKr : ∀ y, y ∈ L → -2147483648 ≤ K y ∧ K y ≤ 2147483647) : zN l yJ4_higherKey cJ4_higherKey 2 (some (.object "java/lang/Object")) (zRm 5 110) en fz D dA [.ref (a), .ref (k)] ([(a, .inr (13, [.null, .null, .null, va_rf (root), .int (zI (sz)), .int (zI (mc)), .null, .null, .null]))] ++ va_pl L (trE ke vl lf rt pa co)) (some (va_rf ((nxk K kk L).map ke))) := by
  refine zN.of (by decide +kernel) rfl ?_
  intro pp ee ss mm args below meth cd Q C hr hlk hQ hV hP ls hl
  have hx := C.1.1
  have hb := C.1.2.1
  have hl : lv_has ls 2 [(0, .ref (a)), (1, .ref (k))] := hl
  refine lv_aload_n hx hb dJ4_higherKey_0 rfl (lv_at hl 0 rfl) ?_
  refine lv_aload_n hx hb dJ4_higherKey_1 rfl (lv_at hl 1 rfl) ?_
  refine z_nV (n := 1) (As := [.ref (k)]) (rest := []) C hV (k_J4_getHigherEntry l D dA en (fz) (k) (kk) (a) (root) (sz) (mc) (K) (L) (ke) (vl) (lf) (rt) (pa) (co) (by first | with_reducible assumption | omega | with_reducible rfl) (by first | with_reducible assumption | omega | with_reducible rfl) (by first | with_reducible assumption | omega | with_reducible rfl) (by first | with_reducible assumption | omega | with_reducible rfl) (by first | with_reducible assumption | omega | with_reducible rfl)) (lw_V q1421 q1422 q1423 q118 q1424) (by decide +kernel) rfl ⟨Nat.le_of_ble_eq_true rfl, Nat.le_of_ble_eq_true rfl⟩ hl.1 hP (va_recv C.2.1 hP (q0 := 0) rfl rfl) rfl (Nat.le_of_ble_eq_true rfl) dJ4_higherKey_2 (Nat.zero_le _) (Nat.zero_le _) ?_
  refine z_cS (n := 1) (As := [va_rf (nxk K kk L)]) (rest := []) C (k_J4_keyOrNull l D dA (nxk K kk L) (L) (ke) (vl) (lf) (rt) (pa) (co) (fun x hx => List.mem_of_find?_eq_some hx)) (lw_S q1425 q1426 q118 q1427) (by decide +kernel) rfl ⟨Nat.le_of_ble_eq_true rfl, Nat.le_of_ble_eq_true rfl⟩ hl.1 (P_pool (X := [(a, .inr (13, [.null, .null, .null, va_rf (root), .int (zI (sz)), .int (zI (mc)), .null, .null, .null]))]) hP) rfl (Nat.le_of_ble_eq_true rfl) dJ4_higherKey_5 (Nat.zero_le _) (Nat.zero_le _) ?_
  exact z_aret C hlk hr (Or.inl ⟨_, rfl⟩) (va_rf_or _) hQ rfl dJ4_higherKey_8

set_option maxHeartbeats 600000 in
set_option maxRecDepth 100000 in
theorem k_J4_getEntry (l : Launch) (D : va_G) (dA : Nat → ClassId) (en : Nat → Nat → Nat) (fz : zFt) (k : Nat) (kk : Int) (e9 : Option Nat) (a : Nat) (root : Option Nat) (sz mc : Int) (K : Nat → Int) (L : List Nat) (ke : Nat → Nat) (vl lf rt pa : Nat → Option Nat) (co : Nat → Bool) (hq : tmOk K L root lf rt pa) (hv : -2147483648 ≤ kk ∧ kk ≤ 2147483647) (hkf : (k, kk) ∈ fz.1) (hKf : ∀ y, y ∈ L → (ke y, K y) ∈ fz.1) (hKr : ∀ y, y ∈ L → -2147483648 ≤ K y ∧ K y ≤ 2147483647) (he : ∀ y, e9 = some y ↔ (y ∈ L ∧ K y = kk)) : zN l yJ4_getEntry cJ4_getEntry 5 (some (.object "java/util/TreeMap$Entry")) (zRm 3 63) en fz D dA [.ref (a), .ref (k)] ([(a, .inr (13, [.null, .null, .null, va_rf (root), .int (zI (sz)), .int (zI (mc)), .null, .null, .null]))] ++ va_pl L (trE ke vl lf rt pa co)) (some (va_rf (e9))) := by
  refine zN.of (by decide +kernel) rfl ?_
  intro pp ee ss mm args below meth cd Q C hr hlk hQ hV hP ls hl
  have hx := C.1.1
  have hb := C.1.2.1
  have hl : lv_has ls 5 [(0, .ref (a)), (1, .ref (k))] := hl
  refine lv_aload_n hx hb dJ4_getEntry_0 rfl (lv_at hl 0 rfl) ?_
  refine z_get C hP 0 rfl rfl in_J4 2 (by decide) q391 rfl dJ4_getEntry_1 ?_
  refine lv_ifnullN (tgt := 13) hx hb dJ4_getEntry_4 (by decide) ?_
  refine lv_aload_n hx hb dJ4_getEntry_13 rfl (lv_at hl 1 rfl) ?_
  refine z_cS (n := 1) (As := [.ref (k)]) (rest := []) C (k_J19_requireNonNull l D dA (k)) (lw_S q1303 q1304 q141 q1305) (by decide +kernel) rfl ⟨Nat.le_of_ble_eq_true rfl, Nat.le_of_ble_eq_true rfl⟩ hl.1 (hP.sub [] rfl) rfl (Nat.le_of_ble_eq_true rfl) dJ4_getEntry_14 (Nat.zero_le _) (Nat.zero_le _) ?_
  refine lv_pop hx hb dJ4_getEntry_17 rfl ?_
  refine lv_aload_n hx hb dJ4_getEntry_18 rfl (lv_at hl 1 rfl) ?_
  refine z_castY C (List.mem_of_getElem? (i := 1) rfl) (hV.2.icell hkf) q1058 dJ4_getEntry_19 ?_
  refine lv_astore_n (lv' := [(2, .ref (k)), (0, .ref (a)), (1, .ref (k))]) hx hb dJ4_getEntry_22 rfl hl (by decide) rfl (fun ls hl => ?_)
  refine lv_aload_n hx hb dJ4_getEntry_23 rfl (lv_at hl 1 rfl) ?_
  refine z_get C hP 0 rfl rfl in_J4 3 (by decide) q392 rfl dJ4_getEntry_24 ?_
  refine z_ostore_n (lv' := [(3, va_rf (root)), (2, .ref (k)), (0, .ref (a)), (1, .ref (k))]) hx hb dJ4_getEntry_27 rfl hl (by decide) rfl (fun ls hl => ?_)
  have L28 : ∀ (N : Nat) (t : Option Nat) (M : List Nat), (sbt K kk L lf rt t M) → (M.length) < N → ∀ ls : Array Slot, lv_has ls 5 [(0, .ref (a)), (1, .ref (k)), (2, .ref (k)), (3, va_rf (t))] → W pp l ee (zRm 3 63) ss mm args below meth cd ss.heap [] 0 0 Q (F0 mm 28 ls []) := by
    intro N
    induction N with
    | zero => intro t M _ hm; exact absurd hm (Nat.not_lt_zero _)
    | succ N ih28 =>
      intro t M hs9 hmz28 ls hl
      refine z_oload_n hx hb dJ4_getEntry_28 rfl (lv_at hl 3 rfl) ?_
      refine z_ifnull (tgt := 75) C dJ4_getEntry_29 (by decide) (fun c_29 => ?_) (fun c_29 => ?_)
      · rw [c_29] at hl
        refine lv_null C.1.1 C.1.2.1 dJ4_getEntry_75 ?_
        exact z_aret C hlk hr (Or.inl ⟨_, rfl⟩) (Or.inl rfl) hQ (by rw [he_none he (sb_none (c_29 ▸ hs9))]; rfl) dJ4_getEntry_76
      · obtain ⟨y_29_1, hy_29_1⟩ := Option.ne_none_iff_exists'.mp c_29
        rw [hy_29_1] at hl
        subst hy_29_1
        have tL_9 := (sb_in hs9 rfl).1
        refine lv_aload_n hx hb dJ4_getEntry_32 rfl (lv_at hl 2 rfl) ?_
        refine lv_aload_n hx hb dJ4_getEntry_33 rfl (lv_at hl 3 rfl) ?_
        refine z_eke (X := [(a, .inr (13, [.null, .null, .null, va_rf (root), .int (zI (sz)), .int (zI (mc)), .null, .null, .null]))]) C hP tL_9 q1281 dJ4_getEntry_34 ?_
        refine z_nF (n := 1) (As := [.ref (ke y_29_1)]) (rest := []) (x := yCmpTo) C (hV.sub (fun q9 h9 => by simp at h9; rcases h9 with h9 | h9 <;> rw [h9]; exact hkf; exact hKf y_29_1 tL_9) (fun q9 h9 => by cases h9)) (k_J14_compareTo l D dA en (k) (ke y_29_1) (kk) (K y_29_1) hv (hKr _ tL_9)) q1060 q1075 q1077 q133 q1079 (List.mem_of_getElem? (i := 1) rfl) 17 rfl (by decide +kernel) rfl ⟨Nat.le_of_ble_eq_true rfl, Nat.le_of_ble_eq_true rfl⟩ hl.1 (hP.sub [] rfl) (hV.2.icell hkf) rfl (Nat.le_of_ble_eq_true rfl) dJ4_getEntry_37 (Nat.zero_le _) (Nat.zero_le _) ?_
        refine z_nm (fun cm_2 e_cm_2 => ?_)
        refine lv_istore (lv' := [(4, .int (zI (cm_2))), (0, .ref (a)), (1, .ref (k)), (2, .ref (k)), (3, .ref (y_29_1))]) hx hb dJ4_getEntry_42 hl (by decide) rfl (fun ls hl => ?_)
        have b_cm : (cm_2 = -1 ∧ kk < K y_29_1) ∨ (cm_2 = 0 ∧ kk = K y_29_1) ∨ (cm_2 = 1 ∧ K y_29_1 < kk) := by rw [e_cm_2]; split; (exact Or.inl ⟨rfl, by assumption⟩); split; (exact Or.inr (Or.inl ⟨rfl, by assumption⟩)); (exact Or.inr (Or.inr ⟨rfl, by omega⟩))
        refine lv_iload hx hb dJ4_getEntry_44 (lv_at hl 0 rfl) ?_
        refine z_if_ge (tgt := 57) C ⟨by omega, by omega⟩ dJ4_getEntry_46 (by decide) (fun c_46 => ?_) (fun c_46 => ?_)
        · refine lv_iload hx hb dJ4_getEntry_57 (lv_at hl 0 rfl) ?_
          refine z_if_le (tgt := 70) C ⟨by omega, by omega⟩ dJ4_getEntry_59 (by decide) (fun c_59 => ?_) (fun c_59 => ?_)
          · refine lv_aload_n hx hb dJ4_getEntry_70 rfl (lv_at hl 4 rfl) ?_
            exact z_aret C hlk hr (Or.inl ⟨_, rfl⟩) (Or.inr ⟨_, rfl⟩) hQ (by rw [(he y_29_1).2 ⟨tL_9, by omega⟩]; rfl) dJ4_getEntry_71
          · have hlt_9 : K y_29_1 < kk := by omega
            obtain ⟨M1_9, hs1_9, hm1_9⟩ := sb_right hq.2.2.1 hs9 hlt_9
            refine lv_aload_n hx hb dJ4_getEntry_62 rfl (lv_at hl 4 rfl) ?_
            refine z_ert (X := [(a, .inr (13, [.null, .null, .null, va_rf (root), .int (zI (sz)), .int (zI (mc)), .null, .null, .null]))]) C hP tL_9 q1285 dJ4_getEntry_63 ?_
            refine z_ostore_n (lv' := [(3, va_rf (rt y_29_1)), (4, .int (zI (cm_2))), (0, .ref (a)), (1, .ref (k)), (2, .ref (k))]) hx hb dJ4_getEntry_66 rfl hl (by decide) rfl (fun ls hl => ?_)
            refine lv_goto (tgt := 72) hx hb dJ4_getEntry_67 (by decide) ?_
            refine lv_goto (tgt := 28) hx hb dJ4_getEntry_72 (by decide) ?_
            exact ih28 (rt y_29_1) (M1_9) hs1_9 (by omega) ls (lv_sub hl [2, 3, 4, 0] rfl)
        · have hlt_9 : kk < K y_29_1 := by omega
          obtain ⟨M1_9, hs1_9, hm1_9⟩ := sb_left hq.2.2.1 hs9 hlt_9
          refine lv_aload_n hx hb dJ4_getEntry_49 rfl (lv_at hl 4 rfl) ?_
          refine z_elf (X := [(a, .inr (13, [.null, .null, .null, va_rf (root), .int (zI (sz)), .int (zI (mc)), .null, .null, .null]))]) C hP tL_9 q1284 dJ4_getEntry_50 ?_
          refine z_ostore_n (lv' := [(3, va_rf (lf y_29_1)), (4, .int (zI (cm_2))), (0, .ref (a)), (1, .ref (k)), (2, .ref (k))]) hx hb dJ4_getEntry_53 rfl hl (by decide) rfl (fun ls hl => ?_)
          refine lv_goto (tgt := 72) hx hb dJ4_getEntry_54 (by decide) ?_
          refine lv_goto (tgt := 28) hx hb dJ4_getEntry_72 (by decide) ?_
          exact ih28 (lf y_29_1) (M1_9) hs1_9 (by omega) ls (lv_sub hl [2, 3, 4, 0] rfl)
  exact L28 ((L.length) + 1) (root) (L) (sb_start hq kk) (by omega) ls (lv_sub hl [2, 3, 1, 0] rfl)

set_option maxHeartbeats 600000 in
set_option maxRecDepth 100000 in
theorem k_J4_get (l : Launch) (D : va_G) (dA : Nat → ClassId) (en : Nat → Nat → Nat) (fz : zFt) (k : Nat) (kk : Int) (e9 : Option Nat) (a : Nat) (root : Option Nat) (sz mc : Int) (K : Nat → Int) (L : List Nat) (ke : Nat → Nat) (vl lf rt pa : Nat → Option Nat) (co : Nat → Bool) (hq : tmOk K L root lf rt pa) (hv : -2147483648 ≤ kk ∧ kk ≤ 2147483647) (hkf : (k, kk) ∈ fz.1) (hKf : ∀ y, y ∈ L → (ke y, K y) ∈ fz.1) (hKr : ∀ y, y ∈ L → -2147483648 ≤ K y ∧ K y ≤ 2147483647) (he : ∀ y, e9 = some y ↔ (y ∈ L ∧ K y = kk)) : zN l yJ4_get cJ4_get 3 (some (.object "java/lang/Object")) (zRm 4 87) en fz D dA [.ref (a), .ref (k)] ([(a, .inr (13, [.null, .null, .null, va_rf (root), .int (zI (sz)), .int (zI (mc)), .null, .null, .null]))] ++ va_pl L (trE ke vl lf rt pa co)) (some (va_rf (e9.bind vl))) := by
  refine zN.of (by decide +kernel) rfl ?_
  intro pp ee ss mm args below meth cd Q C hr hlk hQ hV hP ls hl
  have hx := C.1.1
  have hb := C.1.2.1
  have hl : lv_has ls 3 [(0, .ref (a)), (1, .ref (k))] := hl
  refine lv_aload_n hx hb dJ4_get_0 rfl (lv_at hl 0 rfl) ?_
  refine lv_aload_n hx hb dJ4_get_1 rfl (lv_at hl 1 rfl) ?_
  refine z_nV (n := 1) (As := [.ref (k)]) (rest := []) C hV (k_J4_getEntry l D dA en (fz) (k) (kk) (e9) (a) (root) (sz) (mc) (K) (L) (ke) (vl) (lf) (rt) (pa) (co) (by first | with_reducible assumption | omega | with_reducible rfl) (by first | with_reducible assumption | omega | with_reducible rfl) (by first | with_reducible assumption | omega | with_reducible rfl) (by first | with_reducible assumption | omega | with_reducible rfl) (by first | with_reducible assumption | omega | with_reducible rfl) (by first | with_reducible assumption | omega | with_reducible rfl)) (lw_V q1432 q1433 q1434 q118 q1435) (by decide +kernel) rfl ⟨Nat.le_of_ble_eq_true rfl, Nat.le_of_ble_eq_true rfl⟩ hl.1 hP (va_recv C.2.1 hP (q0 := 0) rfl rfl) rfl (Nat.le_of_ble_eq_true rfl) dJ4_get_2 (Nat.zero_le _) (Nat.zero_le _) ?_
  refine z_ostore_n (lv' := [(2, va_rf (e9)), (0, .ref (a)), (1, .ref (k))]) hx hb dJ4_get_5 rfl hl (by decide) rfl (fun ls hl => ?_)
  refine z_oload_n hx hb dJ4_get_6 rfl (lv_at hl 0 rfl) ?_
  refine z_ifnonnull (tgt := 14) C dJ4_get_7 (by decide) (fun c_7 => ?_) (fun c_7 => ?_)
  · obtain ⟨y_7_1, hy_7_1⟩ := Option.ne_none_iff_exists'.mp c_7
    rw [hy_7_1] at hl
    refine lv_aload_n hx hb dJ4_get_14 rfl (lv_at hl 0 rfl) ?_
    refine z_evl (X := [(a, .inr (13, [.null, .null, .null, va_rf (root), .int (zI (sz)), .int (zI (mc)), .null, .null, .null]))]) C hP ((he _).1 hy_7_1).1 q1283 dJ4_get_15 ?_
    exact z_aret C hlk hr (Or.inl ⟨_, rfl⟩) (va_rf_or _) hQ (by first | (rw [c_7]; rfl) | (rw [hy_7_1]; rfl)) dJ4_get_18
  · rw [c_7] at hl
    refine lv_null C.1.1 C.1.2.1 dJ4_get_10 ?_
    refine lv_goto (tgt := 18) hx hb dJ4_get_11 (by decide) ?_
    exact z_aret C hlk hr (Or.inl ⟨_, rfl⟩) (Or.inl rfl) hQ (by first | (rw [c_7]; rfl) | (rw [hy_7_1]; rfl)) dJ4_get_18

set_option maxHeartbeats 600000 in
set_option maxRecDepth 100000 in
theorem k_J4_size (l : Launch) (D : va_G) (dA : Nat → ClassId) (a : Nat) (root : Option Nat) (sz mc : Int) : zM l yJ4_size cJ4_size 1 (some .int) (zRm 0 0) D dA [.ref (a)] [(a, .inr (13, [.null, .null, .null, va_rf (root), .int (zI (sz)), .int (zI (mc)), .null, .null, .null]))] (some (.int (zI (sz)))) := by
  refine zM.of (by decide +kernel) rfl ?_
  intro pp ee ss mm args below meth cd Q C hr hlk hQ hP ls hl
  have hx := C.1.1
  have hb := C.1.2.1
  have hl : lv_has ls 1 [(0, .ref (a))] := hl
  refine lv_aload_n hx hb dJ4_size_0 rfl (lv_at hl 0 rfl) ?_
  refine z_get C hP 0 rfl rfl in_J4 4 (by decide) q393 rfl dJ4_size_1 ?_
  exact z_iret C hlk hr hQ (by first | rfl | omega) dJ4_size_4

set_option maxHeartbeats 600000 in
set_option maxRecDepth 100000 in
theorem k_J4_clear (l : Launch) (D : va_G) (dA : Nat → ClassId) (a : Nat) (root : Option Nat) (sz mc : Int) : zG (S := Unit) l yJ4_clear cJ4_clear 1 (none) (zRmW 0 0 0 0) D dA [.ref (a)] [(a, .inr (13, [.null, .null, .null, va_rf (root), .int (zI (sz)), .int (zI (mc)), .null, .null, .null]))] (fun _ : Unit => none) (fun _ : Unit => True) (fun _ : Unit => [(a, .inr (13, [.null, .null, .null, .null, .int (zI 0), .int (zI (mc + 1)), .null, .null, .null]))]) := by
  refine zG.of (by decide +kernel) rfl ?_
  intro pp ee ss mm args below meth cd Q A C hr hlk hQ hA hin H locs hP hD hS ls hl
  have hx := C.1.1
  have hb := C.1.2.1
  have hl : lv_has ls 1 [(0, .ref (a))] := hl
  refine lv_aload_n hx hb dJ4_clear_0 rfl (lv_at hl 0 rfl) ?_
  refine lv_dup hx hb dJ4_clear_1 rfl ?_
  refine z_get C hP 0 rfl rfl in_J4 5 (by decide) q394 rfl dJ4_clear_2 ?_
  refine z_iconst C dJ4_clear_5 ?_
  refine z_iadd C dJ4_clear_6 ?_
  refine z_put C hP hD hS 0 rfl rfl in_J4 tyJ4_ok nmJ4 5 (by decide) q394 rfl (v := .int (zI ((mc) + 1))) rfl rfl (Nat.le_of_ble_eq_true rfl) (ws' := [(a, .inr (13, [.null, .null, .null, va_rf (root), .int (zI (sz)), .int (zI ((mc) + 1)), .null, .null, .null]))]) rfl dJ4_clear_7 (fun H locs hP hD hS => ?_)
  refine lv_aload_n hx hb dJ4_clear_10 rfl (lv_at hl 0 rfl) ?_
  refine z_iconst C dJ4_clear_11 ?_
  refine z_put C hP hD hS 0 rfl rfl in_J4 tyJ4_ok nmJ4 4 (by decide) q393 rfl (v := .int (zI 0)) rfl rfl (Nat.le_of_ble_eq_true rfl) (ws' := [(a, .inr (13, [.null, .null, .null, va_rf (root), .int (zI 0), .int (zI ((mc) + 1)), .null, .null, .null]))]) rfl dJ4_clear_12 (fun H locs hP hD hS => ?_)
  refine lv_aload_n hx hb dJ4_clear_15 rfl (lv_at hl 0 rfl) ?_
  refine lv_null C.1.1 C.1.2.1 dJ4_clear_16 ?_
  refine z_put C hP hD hS 0 rfl rfl in_J4 tyJ4_ok nmJ4 3 (by decide) q392 rfl (v := .null) rfl rfl (Nat.le_of_ble_eq_true rfl) (ws' := [(a, .inr (13, [.null, .null, .null, .null, .int (zI 0), .int (zI ((mc) + 1)), .null, .null, .null]))]) rfl dJ4_clear_17 (fun H locs hP hD hS => ?_)
  exact z_vretG C hlk hr hQ () rfl trivial (hP.sub [0] rfl) (hD.sub [0] (by decide) rfl) hS (Nat.le_of_ble_eq_true rfl) (Nat.le_of_ble_eq_true rfl) dJ4_clear_20

set_option maxHeartbeats 600000 in
set_option maxRecDepth 100000 in
theorem k_J3_init (l : Launch) (D : va_G) (dA : Nat → ClassId) (a : Nat) : zG (S := Unit) l yJ3_init cJ3_init 1 (none) (zRmW 1 20 0 0) D dA [.ref (a)] [] (fun _ : Unit => none) (fun _ : Unit => True) (fun _ : Unit => []) := by
  refine zG.of (by decide +kernel) rfl ?_
  intro pp ee ss mm args below meth cd Q A C hr hlk hQ hA hin H locs hP hD hS ls hl
  have hx := C.1.1
  have hb := C.1.2.1
  have hl : lv_has ls 1 [(0, .ref (a))] := hl
  refine lv_aload_n hx hb dJ3_init_0 rfl (lv_at hl 0 rfl) ?_
  refine z_obj C q390 hl.1 (Nat.le_of_ble_eq_true rfl) (Nat.le_of_ble_eq_true rfl) dJ3_init_1 ?_
  exact z_vretG C hlk hr hQ () rfl trivial (hP.sub [] rfl) (hD.sub [] (by decide) rfl) hS (Nat.le_of_ble_eq_true rfl) (Nat.le_of_ble_eq_true rfl) dJ3_init_4

set_option maxHeartbeats 600000 in
set_option maxRecDepth 100000 in
theorem k_J4_init (l : Launch) (D : va_G) (dA : Nat → ClassId) (a : Nat) : zG (S := Unit) l yJ4_init cJ4_init 1 (none) (zRmW 2 40 0 0) D dA [.ref (a)] [(a, .inr (13, [.null, .null, .null, .null, .int (zI 0), .int (zI 0), .null, .null, .null]))] (fun _ : Unit => none) (fun _ : Unit => True) (fun _ : Unit => [(a, .inr (13, [.null, .null, .null, .null, .int (zI 0), .int (zI 0), .null, .null, .null]))]) := by
  refine zG.of (by decide +kernel) rfl ?_
  intro pp ee ss mm args below meth cd Q A C hr hlk hQ hA hin H locs hP hD hS ls hl
  have hx := C.1.1
  have hb := C.1.2.1
  have hl : lv_has ls 1 [(0, .ref (a))] := hl
  refine lv_aload_n hx hb dJ4_init_0 rfl (lv_at hl 0 rfl) ?_
  refine z_gI (n := 0) (As := []) (rest := []) (wc := []) (wr := [(a, .inr (13, [.null, .null, .null, .null, .int (zI 0), .int (zI 0), .null, .null, .null]))]) C hP hD hS hA [] [0] rfl rfl (by decide) (by decide) (by decide) (k_J3_init l D dA (a)) q389 q117 q387 q388 rfl (by decide +kernel) rfl ⟨Nat.le_of_ble_eq_true rfl, Nat.le_of_ble_eq_true rfl⟩ hl.1 rfl (Nat.le_of_ble_eq_true rfl) dJ4_init_1 (by decide) (by decide) (fun _ H locs hp_1 hP hD hS _ => ?_)
  have hP := hP.sub (ws' := [(a, .inr (13, [.null, .null, .null, .null, .int (zI 0), .int (zI 0), .null, .null, .null]))]) [0] rfl
  have hD := hD.sub (ws' := [(a, .inr (13, [.null, .null, .null, .null, .int (zI 0), .int (zI 0), .null, .null, .null]))]) [0] (by decide) rfl
  refine W.widen (k := 0) (n := 0) (Nat.le_of_ble_eq_true rfl) (Nat.le_of_ble_eq_true rfl) ?_
  refine lv_aload_n hx hb dJ4_init_4 rfl (lv_at hl 0 rfl) ?_
  refine z_iconst C dJ4_init_5 ?_
  refine z_put C hP hD hS 0 rfl rfl in_J4 tyJ4_ok nmJ4 4 (by decide) q393 rfl (v := .int (zI 0)) rfl rfl (Nat.le_of_ble_eq_true rfl) (ws' := [(a, .inr (13, [.null, .null, .null, .null, .int (zI 0), .int (zI 0), .null, .null, .null]))]) rfl dJ4_init_6 (fun H locs hP hD hS => ?_)
  refine lv_aload_n hx hb dJ4_init_9 rfl (lv_at hl 0 rfl) ?_
  refine z_iconst C dJ4_init_10 ?_
  refine z_put C hP hD hS 0 rfl rfl in_J4 tyJ4_ok nmJ4 5 (by decide) q394 rfl (v := .int (zI 0)) rfl rfl (Nat.le_of_ble_eq_true rfl) (ws' := [(a, .inr (13, [.null, .null, .null, .null, .int (zI 0), .int (zI 0), .null, .null, .null]))]) rfl dJ4_init_11 (fun H locs hP hD hS => ?_)
  refine lv_aload_n hx hb dJ4_init_14 rfl (lv_at hl 0 rfl) ?_
  refine lv_null C.1.1 C.1.2.1 dJ4_init_15 ?_
  refine z_putF C hP hD hS 0 rfl rfl in_J4 tyJ4_ok nmJ4 2 (by decide) q391 rfl hin rfl rfl rfl (Nat.le_of_ble_eq_true rfl) (ws' := [(a, .inr (13, [.null, .null, .null, .null, .int (zI 0), .int (zI 0), .null, .null, .null]))]) rfl dJ4_init_16 (fun H locs hP hD hS => ?_)
  exact z_vretG C hlk hr hQ () rfl trivial (hP.sub [0] rfl) (hD.sub [0] (by decide) rfl) hS (Nat.le_of_ble_eq_true rfl) (Nat.le_of_ble_eq_true rfl) dJ4_init_19
