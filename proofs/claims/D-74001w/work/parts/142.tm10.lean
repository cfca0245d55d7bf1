/-! TreeMap: entries come in (printed by tools/s_tm5.py) -/
set_option maxHeartbeats 600000 in
set_option maxRecDepth 100000 in
theorem k_J4_addEntry (l : Launch) (D : va_G) (dA : Nat → ClassId) (B : Nat) (en : Nat → Nat → Nat) (k x : Nat) (v : Option Nat) (lft : Bool) (kk : Int) (M : List Nat) (a : Nat) (root : Option Nat) (sz mc : Int) (K : Nat → Int) (L : List Nat) (ke : Nat → Nat) (vl lf rt pa : Nat → Option Nat) (co : Nat → Bool) (hq : tmOk K L root lf rt pa) (hb9 : sbt K kk L lf rt (some x) M) (hc9 : (lft = true ∧ kk < K x ∧ lf x = none) ∨ (lft = false ∧ K x < kk ∧ rt x = none)) : zH (S := Nat × List Nat × List Nat × Option Nat × (Nat → Option Nat) × (Nat → Option Nat) × (Nat → Option Nat) × (Nat → Bool)) l yJ4_addEntry cJ4_addEntry 6 (none) (zRmW 2 44 1 6) B en ([], []) D dA [.ref (a), .ref (k), va_rf (v), .ref (x), .int (zB (lft))] ([(a, .inr (13, [.null, .null, .null, va_rf (root), .int (zI (sz)), .int (zI (mc)), .null, .null, .null]))] ++ va_pl L (trE ke vl lf rt pa co)) (fun u : Nat × List Nat × List Nat × Option Nat × (Nat → Option Nat) × (Nat → Option Nat) × (Nat → Option Nat) × (Nat → Bool) => none) (fun u : Nat × List Nat × List Nat × Option Nat × (Nat → Option Nat) × (Nat → Option Nat) × (Nat → Option Nat) × (Nat → Bool) => L = u.2.1 ++ u.2.2.1 ∧ (∀ y, y ∈ u.2.1 → K y < kk) ∧ (∀ y, y ∈ u.2.2.1 → kk < K y) ∧ u.1 ∉ L ∧ tmOk (va_up K u.1 kk) (u.2.1 ++ u.1 :: u.2.2.1) u.2.2.2.1 u.2.2.2.2.1 u.2.2.2.2.2.1 u.2.2.2.2.2.2.1) (fun u : Nat × List Nat × List Nat × Option Nat × (Nat → Option Nat) × (Nat → Option Nat) × (Nat → Option Nat) × (Nat → Bool) => ([(a, .inr (13, [.null, .null, .null, va_rf (u.2.2.2.1), .int (zI (sz + 1)), .int (zI (mc + 1)), .null, .null, .null]))] ++ va_pl (u.2.1 ++ u.1 :: u.2.2.1) (trE (va_up ke u.1 k) (va_up vl u.1 v) u.2.2.2.2.1 u.2.2.2.2.2.1 u.2.2.2.2.2.2.1 u.2.2.2.2.2.2.2))) := by
  refine zH.of (by decide +kernel) (by cases v <;> rfl) ?_
  intro pp ee ss mm args below meth cd Q A C hr hlk hQ hA hV hin H locs hP hD hS ls hl
  have hx := C.1.1
  have hb := C.1.2.1
  have hl : lv_has ls 6 [(0, .ref (a)), (1, .ref (k)), (2, va_rf (v)), (3, .ref (x)), (4, .int (zB (lft)))] := (by cases v <;> exact hl)
  have hx9 := (sb_in hb9 rfl).1
  refine z_new C hP hD hS hA 14 rfl in_J18 tyJ18_ok q1274 q1275 q140 (fs := [.null, .null, .null, .null, .null, .int (zB (false))]) (fun j hj => match j, hj with | 0, _ => rfl | 1, _ => rfl | 2, _ => rfl | 3, _ => rfl | 4, _ => rfl | 5, _ => rfl | (z + 6), h => absurd h (by omega)) (Nat.le_of_ble_eq_true rfl) (Nat.le_of_ble_eq_true rfl) dJ4_addEntry_0 (fun na_1 H hP hD hS => ?_)
  refine lv_dup hx hb dJ4_addEntry_3 rfl ?_
  refine lv_aload_n hx hb dJ4_addEntry_4 rfl (lv_at hl 1 rfl) ?_
  refine z_oload_n hx hb dJ4_addEntry_5 rfl (lv_at hl 2 rfl) ?_
  refine lv_aload_n hx hb dJ4_addEntry_6 rfl (lv_at hl 3 rfl) ?_
  refine z_gIl (n := 3) (As := [.ref (k), va_rf (v), .ref (x)]) (rest := [.ref (na_1)]) C hP hD hS hA (k_J18_init l D dA na_1 k v (some x)) q1278 q140 q1276 q1277 rfl (by decide +kernel) rfl ⟨Nat.le_of_ble_eq_true rfl, Nat.le_of_ble_eq_true rfl⟩ hl.1 rfl (Nat.le_of_ble_eq_true rfl) dJ4_addEntry_7 (by decide) (by decide) (fun _ H locs _ hP hD hS => ?_)
  refine W.widen (k := 1) (n := 6) (Nat.le_of_ble_eq_true rfl) (Nat.le_of_ble_eq_true rfl) ?_
  have hqn_1 : na_1 ∉ L := va_pl_fresh2 (X := [(a, .inr (13, [.null, .null, .null, va_rf (root), .int (zI (sz)), .int (zI (mc)), .null, .null, .null]))]) hD
  have hP : va_P D vwCl ([(a, .inr (13, [.null, .null, .null, va_rf (root), .int (zI (sz)), .int (zI (mc)), .null, .null, .null]))] ++ va_pl (L ++ [na_1]) (trE (va_up ke na_1 k) (va_up vl na_1 v) (va_up lf na_1 none) (va_up rt na_1 none) (va_up pa na_1 (some x)) (va_up co na_1 true))) H := by rw [← te_push hqn_1, ← List.append_assoc]; exact hP
  have hD : va_D A ([(a, .inr (13, [.null, .null, .null, va_rf (root), .int (zI (sz)), .int (zI (mc)), .null, .null, .null]))] ++ va_pl (L ++ [na_1]) (trE (va_up ke na_1 k) (va_up vl na_1 v) (va_up lf na_1 none) (va_up rt na_1 none) (va_up pa na_1 (some x)) (va_up co na_1 true))) := by rw [← te_push hqn_1, ← List.append_assoc]; exact hD
  refine lv_astore (lv' := [(5, .ref (na_1)), (0, .ref (a)), (1, .ref (k)), (2, va_rf (v)), (3, .ref (x)), (4, .int (zB (lft)))]) hx hb dJ4_addEntry_10 hl (by decide) rfl (fun ls hl => ?_)
  refine lv_iload hx hb dJ4_addEntry_12 (lv_at hl 5 rfl) ?_
  refine z_if_eqB (tgt := 26) C dJ4_addEntry_14 (by decide) (fun c_14 => ?_) (fun c_14 => ?_)
  · refine lv_aload_n hx hb dJ4_addEntry_26 rfl (lv_at hl 4 rfl) ?_
    refine lv_aload hx hb dJ4_addEntry_27 (lv_at hl 0 rfl) ?_
    refine z_eprt (X := [(a, .inr (13, [.null, .null, .null, va_rf (root), .int (zI (sz)), .int (zI (mc)), .null, .null, .null]))]) C hP hD hS (List.mem_append_left _ hx9) (v9 := (some na_1)) q1285 dJ4_addEntry_29 (fun H locs hP hD hS => ?_)
    obtain ⟨hk_9, hl_9⟩ := hc9.elim (fun z => absurd (z.1.symm.trans c_14) (by simp)) (fun z => z.2)
    obtain ⟨L1_2, L2_2, e1_2, s1_2, s2_2, ok_2⟩ := tm_addR hq hb9 hk_9 hl_9 hqn_1
    have hpm : (L ++ [na_1]).Perm (L1_2 ++ na_1 :: L2_2) := by rw [e1_2]; exact pm_ins
    have hP : va_P D vwCl ([(a, .inr (13, [.null, .null, .null, va_rf (root), .int (zI (sz)), .int (zI (mc)), .null, .null, .null]))] ++ va_pl (L1_2 ++ na_1 :: L2_2) (trE (va_up ke na_1 k) (va_up vl na_1 v) (va_up lf na_1 none) (va_up (va_up rt na_1 none) x (some na_1)) (va_up pa na_1 (some x)) (va_up co na_1 true))) H := P_perm (pool_perm hpm) hP
    have hD : va_D A ([(a, .inr (13, [.null, .null, .null, va_rf (root), .int (zI (sz)), .int (zI (mc)), .null, .null, .null]))] ++ va_pl (L1_2 ++ na_1 :: L2_2) (trE (va_up ke na_1 k) (va_up vl na_1 v) (va_up lf na_1 none) (va_up (va_up rt na_1 none) x (some na_1)) (va_up pa na_1 (some x)) (va_up co na_1 true))) := D_perm (pool_perm hpm) hD
    refine lv_aload_n hx hb dJ4_addEntry_32 rfl (lv_at hl 1 rfl) ?_
    refine lv_aload hx hb dJ4_addEntry_33 (lv_at hl 0 rfl) ?_
    refine z_hVw (n := 1) (As := [.ref (na_1)]) (rest := []) C hV hP hD hS hA (k_J4_fixAfterInsertion l D dA B en (na_1) (a) (root) (sz) (mc) ((va_up K na_1 kk)) ((L1_2 ++ na_1 :: L2_2)) ((va_up ke na_1 k)) ((va_up vl na_1 v)) ((va_up lf na_1 none)) ((va_up (va_up rt na_1 none) x (some na_1))) ((va_up pa na_1 (some x))) ((va_up co na_1 true)) ok_2 (by simp)) (hV.fz hS) (lw_V q1310 q1312 qs41 q118 q1313) (by decide +kernel) rfl ⟨Nat.le_of_ble_eq_true rfl, Nat.le_of_ble_eq_true rfl⟩ hl.1 0 rfl rfl rfl (Nat.le_of_ble_eq_true rfl) dJ4_addEntry_35 (by decide) (by decide) (fun u_35 H locs hp_35 hP hD hS => ?_)
    obtain ⟨root1_3, lf1_4, rt1_5, pa1_6, co1_7⟩ := u_35
    have hP : va_P D vwCl ([(a, .inr (13, [.null, .null, .null, va_rf (root1_3), .int (zI (sz)), .int (zI (mc)), .null, .null, .null]))] ++ va_pl ((L1_2 ++ na_1 :: L2_2)) (trE ((va_up ke na_1 k)) ((va_up vl na_1 v)) lf1_4 rt1_5 pa1_6 co1_7)) H := hP
    have hD : va_D A ([(a, .inr (13, [.null, .null, .null, va_rf (root1_3), .int (zI (sz)), .int (zI (mc)), .null, .null, .null]))] ++ va_pl ((L1_2 ++ na_1 :: L2_2)) (trE ((va_up ke na_1 k)) ((va_up vl na_1 v)) lf1_4 rt1_5 pa1_6 co1_7)) := hD
    have hp_35 : tmOk ((va_up K na_1 kk)) ((L1_2 ++ na_1 :: L2_2)) root1_3 lf1_4 rt1_5 pa1_6 := hp_35
    refine W.widen (k := 1) (n := 6) (Nat.le_of_ble_eq_true rfl) (Nat.le_of_ble_eq_true rfl) ?_
    refine lv_aload_n hx hb dJ4_addEntry_38 rfl (lv_at hl 1 rfl) ?_
    refine lv_dup hx hb dJ4_addEntry_39 rfl ?_
    refine z_get C hP 0 rfl rfl in_J4 4 (by decide) q393 rfl dJ4_addEntry_40 ?_
    refine z_iconst C dJ4_addEntry_43 ?_
    refine z_iadd C dJ4_addEntry_44 ?_
    refine z_put C hP hD hS 0 rfl rfl in_J4 tyJ4_ok nmJ4 4 (by decide) q393 rfl (v := .int (zI ((sz) + 1))) rfl rfl (Nat.le_of_ble_eq_true rfl) (ws' := ([(a, .inr (13, [.null, .null, .null, va_rf (root1_3), .int (zI ((sz) + 1)), .int (zI (mc)), .null, .null, .null]))] ++ va_pl ((L1_2 ++ na_1 :: L2_2)) (trE ((va_up ke na_1 k)) ((va_up vl na_1 v)) lf1_4 rt1_5 pa1_6 co1_7))) rfl dJ4_addEntry_45 (fun H locs hP hD hS => ?_)
    refine lv_aload_n hx hb dJ4_addEntry_48 rfl (lv_at hl 1 rfl) ?_
    refine lv_dup hx hb dJ4_addEntry_49 rfl ?_
    refine z_get C hP 0 rfl rfl in_J4 5 (by decide) q394 rfl dJ4_addEntry_50 ?_
    refine z_iconst C dJ4_addEntry_53 ?_
    refine z_iadd C dJ4_addEntry_54 ?_
    refine z_put C hP hD hS 0 rfl rfl in_J4 tyJ4_ok nmJ4 5 (by decide) q394 rfl (v := .int (zI ((mc) + 1))) rfl rfl (Nat.le_of_ble_eq_true rfl) (ws' := ([(a, .inr (13, [.null, .null, .null, va_rf (root1_3), .int (zI ((sz) + 1)), .int (zI ((mc) + 1)), .null, .null, .null]))] ++ va_pl ((L1_2 ++ na_1 :: L2_2)) (trE ((va_up ke na_1 k)) ((va_up vl na_1 v)) lf1_4 rt1_5 pa1_6 co1_7))) rfl dJ4_addEntry_55 (fun H locs hP hD hS => ?_)
    exact z_vretG C hlk hr hQ ⟨na_1, L1_2, L2_2, root1_3, lf1_4, rt1_5, pa1_6, co1_7⟩ rfl ⟨e1_2, s1_2, s2_2, hqn_1, hp_35⟩ hP hD hS (Nat.le_of_ble_eq_true rfl) (Nat.le_of_ble_eq_true rfl) dJ4_addEntry_58
  · refine lv_aload_n hx hb dJ4_addEntry_17 rfl (lv_at hl 4 rfl) ?_
    refine lv_aload hx hb dJ4_addEntry_18 (lv_at hl 0 rfl) ?_
    refine z_eplf (X := [(a, .inr (13, [.null, .null, .null, va_rf (root), .int (zI (sz)), .int (zI (mc)), .null, .null, .null]))]) C hP hD hS (List.mem_append_left _ hx9) (v9 := (some na_1)) q1284 dJ4_addEntry_20 (fun H locs hP hD hS => ?_)
    refine lv_goto (tgt := 32) hx hb dJ4_addEntry_23 (by decide) ?_
    obtain ⟨hk_9, hl_9⟩ := hc9.elim (fun z => z.2) (fun z => absurd (z.1.symm.trans c_14) (by simp))
    obtain ⟨L1_8, L2_8, e1_8, s1_8, s2_8, ok_8⟩ := tm_addL hq hb9 hk_9 hl_9 hqn_1
    have hpm : (L ++ [na_1]).Perm (L1_8 ++ na_1 :: L2_8) := by rw [e1_8]; exact pm_ins
    have hP : va_P D vwCl ([(a, .inr (13, [.null, .null, .null, va_rf (root), .int (zI (sz)), .int (zI (mc)), .null, .null, .null]))] ++ va_pl (L1_8 ++ na_1 :: L2_8) (trE (va_up ke na_1 k) (va_up vl na_1 v) (va_up (va_up lf na_1 none) x (some na_1)) (va_up rt na_1 none) (va_up pa na_1 (some x)) (va_up co na_1 true))) H := P_perm (pool_perm hpm) hP
    have hD : va_D A ([(a, .inr (13, [.null, .null, .null, va_rf (root), .int (zI (sz)), .int (zI (mc)), .null, .null, .null]))] ++ va_pl (L1_8 ++ na_1 :: L2_8) (trE (va_up ke na_1 k) (va_up vl na_1 v) (va_up (va_up lf na_1 none) x (some na_1)) (va_up rt na_1 none) (va_up pa na_1 (some x)) (va_up co na_1 true))) := D_perm (pool_perm hpm) hD
    refine lv_aload_n hx hb dJ4_addEntry_32 rfl (lv_at hl 1 rfl) ?_
    refine lv_aload hx hb dJ4_addEntry_33 (lv_at hl 0 rfl) ?_
    refine z_hVw (n := 1) (As := [.ref (na_1)]) (rest := []) C hV hP hD hS hA (k_J4_fixAfterInsertion l D dA B en (na_1) (a) (root) (sz) (mc) ((va_up K na_1 kk)) ((L1_8 ++ na_1 :: L2_8)) ((va_up ke na_1 k)) ((va_up vl na_1 v)) ((va_up (va_up lf na_1 none) x (some na_1))) ((va_up rt na_1 none)) ((va_up pa na_1 (some x))) ((va_up co na_1 true)) ok_8 (by simp)) (hV.fz hS) (lw_V q1310 q1312 qs41 q118 q1313) (by decide +kernel) rfl ⟨Nat.le_of_ble_eq_true rfl, Nat.le_of_ble_eq_true rfl⟩ hl.1 0 rfl rfl rfl (Nat.le_of_ble_eq_true rfl) dJ4_addEntry_35 (by decide) (by decide) (fun u_35 H locs hp_35 hP hD hS => ?_)
    obtain ⟨root1_9, lf1_10, rt1_11, pa1_12, co1_13⟩ := u_35
    have hP : va_P D vwCl ([(a, .inr (13, [.null, .null, .null, va_rf (root1_9), .int (zI (sz)), .int (zI (mc)), .null, .null, .null]))] ++ va_pl ((L1_8 ++ na_1 :: L2_8)) (trE ((va_up ke na_1 k)) ((va_up vl na_1 v)) lf1_10 rt1_11 pa1_12 co1_13)) H := hP
    have hD : va_D A ([(a, .inr (13, [.null, .null, .null, va_rf (root1_9), .int (zI (sz)), .int (zI (mc)), .null, .null, .null]))] ++ va_pl ((L1_8 ++ na_1 :: L2_8)) (trE ((va_up ke na_1 k)) ((va_up vl na_1 v)) lf1_10 rt1_11 pa1_12 co1_13)) := hD
    have hp_35 : tmOk ((va_up K na_1 kk)) ((L1_8 ++ na_1 :: L2_8)) root1_9 lf1_10 rt1_11 pa1_12 := hp_35
    refine W.widen (k := 1) (n := 6) (Nat.le_of_ble_eq_true rfl) (Nat.le_of_ble_eq_true rfl) ?_
    refine lv_aload_n hx hb dJ4_addEntry_38 rfl (lv_at hl 1 rfl) ?_
    refine lv_dup hx hb dJ4_addEntry_39 rfl ?_
    refine z_get C hP 0 rfl rfl in_J4 4 (by decide) q393 rfl dJ4_addEntry_40 ?_
    refine z_iconst C dJ4_addEntry_43 ?_
    refine z_iadd C dJ4_addEntry_44 ?_
    refine z_put C hP hD hS 0 rfl rfl in_J4 tyJ4_ok nmJ4 4 (by decide) q393 rfl (v := .int (zI ((sz) + 1))) rfl rfl (Nat.le_of_ble_eq_true rfl) (ws' := ([(a, .inr (13, [.null, .null, .null, va_rf (root1_9), .int (zI ((sz) + 1)), .int (zI (mc)), .null, .null, .null]))] ++ va_pl ((L1_8 ++ na_1 :: L2_8)) (trE ((va_up ke na_1 k)) ((va_up vl na_1 v)) lf1_10 rt1_11 pa1_12 co1_13))) rfl dJ4_addEntry_45 (fun H locs hP hD hS => ?_)
    refine lv_aload_n hx hb dJ4_addEntry_48 rfl (lv_at hl 1 rfl) ?_
    refine lv_dup hx hb dJ4_addEntry_49 rfl ?_
    refine z_get C hP 0 rfl rfl in_J4 5 (by decide) q394 rfl dJ4_addEntry_50 ?_
    refine z_iconst C dJ4_addEntry_53 ?_
    refine z_iadd C dJ4_addEntry_54 ?_
    refine z_put C hP hD hS 0 rfl rfl in_J4 tyJ4_ok nmJ4 5 (by decide) q394 rfl (v := .int (zI ((mc) + 1))) rfl rfl (Nat.le_of_ble_eq_true rfl) (ws' := ([(a, .inr (13, [.null, .null, .null, va_rf (root1_9), .int (zI ((sz) + 1)), .int (zI ((mc) + 1)), .null, .null, .null]))] ++ va_pl ((L1_8 ++ na_1 :: L2_8)) (trE ((va_up ke na_1 k)) ((va_up vl na_1 v)) lf1_10 rt1_11 pa1_12 co1_13))) rfl dJ4_addEntry_55 (fun H locs hP hD hS => ?_)
    exact z_vretG C hlk hr hQ ⟨na_1, L1_8, L2_8, root1_9, lf1_10, rt1_11, pa1_12, co1_13⟩ rfl ⟨e1_8, s1_8, s2_8, hqn_1, hp_35⟩ hP hD hS (Nat.le_of_ble_eq_true rfl) (Nat.le_of_ble_eq_true rfl) dJ4_addEntry_58
