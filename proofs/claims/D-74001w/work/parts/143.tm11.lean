/-! TreeMap: put (printed by tools/s_tm6.py) -/
set_option maxHeartbeats 600000 in
set_option maxRecDepth 100000 in
theorem k_J19_requireNonNull (l : Launch) (D : va_G) (dA : Nat → ClassId) (a : Nat) : zM l yJ19_requireNonNull cJ19_requireNonNull 1 (some (.object "java/lang/Object")) (zRm 0 0) D dA [.ref (a)] [] (some (.ref (a))) := by
  refine zM.of (by decide +kernel) rfl ?_
  intro pp ee ss mm args below meth cd Q C hr hlk hQ hP ls hl
  have hx := C.1.1
  have hb := C.1.2.1
  have hl : lv_has ls 1 [(0, .ref (a))] := hl
  refine lv_aload_n hx hb dJ19_requireNonNull_0 rfl (lv_at hl 0 rfl) ?_
  refine lv_ifnonnull (tgt := 12) hx hb dJ19_requireNonNull_1 (by decide) ?_
  refine lv_aload_n hx hb dJ19_requireNonNull_12 rfl (lv_at hl 0 rfl) ?_
  exact z_aret C hlk hr (Or.inl ⟨_, rfl⟩) (Or.inr ⟨_, rfl⟩) hQ rfl dJ19_requireNonNull_13

set_option maxHeartbeats 600000 in
set_option maxRecDepth 100000 in
theorem k_J4_addEntryToEmptyMap (l : Launch) (D : va_G) (dA : Nat → ClassId) (B : Nat) (en : Nat → Nat → Nat) (k : Nat) (v : Option Nat) (kk : Int) (a : Nat) (sz mc : Int) (K : Nat → Int) (ke : Nat → Nat) (vl lf rt pa : Nat → Option Nat) (co : Nat → Bool) (hv : -2147483648 ≤ kk ∧ kk ≤ 2147483647) : zH (S := Nat × (Nat → Option Nat) × (Nat → Option Nat) × (Nat → Option Nat) × (Nat → Bool)) l yJ4_addEntryToEmptyMap cJ4_addEntryToEmptyMap 3 (none) (zRmW 4 85 1 6) B en ([(k, kk)], []) D dA [.ref (a), .ref (k), va_rf (v)] ([(a, .inr (13, [.null, .null, .null, .null, .int (zI (sz)), .int (zI (mc)), .null, .null, .null]))] ++ va_pl ([] : List Nat) (trE ke vl lf rt pa co)) (fun u : Nat × (Nat → Option Nat) × (Nat → Option Nat) × (Nat → Option Nat) × (Nat → Bool) => none) (fun u : Nat × (Nat → Option Nat) × (Nat → Option Nat) × (Nat → Option Nat) × (Nat → Bool) => tmOk (va_up K u.1 kk) [u.1] (some u.1) u.2.1 u.2.2.1 u.2.2.2.1) (fun u : Nat × (Nat → Option Nat) × (Nat → Option Nat) × (Nat → Option Nat) × (Nat → Bool) => ([(a, .inr (13, [.null, .null, .null, .ref (u.1), .int (zI (1)), .int (zI (mc + 1)), .null, .null, .null]))] ++ va_pl ([u.1]) (trE (va_up ke u.1 k) (va_up vl u.1 v) u.2.1 u.2.2.1 u.2.2.2.1 u.2.2.2.2))) := by
  refine zH.of (by decide +kernel) (by cases v <;> rfl) ?_
  intro pp ee ss mm args below meth cd Q A C hr hlk hQ hA hV hin H locs hP hD hS ls hl
  have hx := C.1.1
  have hb := C.1.2.1
  have hl : lv_has ls 3 [(0, .ref (a)), (1, .ref (k)), (2, va_rf (v))] := (by cases v <;> exact hl)
  refine lv_aload_n hx hb dJ4_addEntryToEmptyMap_0 rfl (lv_at hl 0 rfl) ?_
  refine lv_aload_n hx hb dJ4_addEntryToEmptyMap_1 rfl (lv_at hl 1 rfl) ?_
  refine lv_aload_n hx hb dJ4_addEntryToEmptyMap_2 rfl (lv_at hl 1 rfl) ?_
  refine z_nV (n := 2) (As := [.ref (k), .ref (k)]) (rest := []) C ((hV.pure hS).sub (fun q9 h9 => by simp at h9; rw [h9]; exact List.mem_cons_self) (fun q9 h9 => by cases h9)) (k_J4_compare l D dA en (a) (k) (k) (none) (sz) (mc) (kk) (kk) hv hv) (lw_V q1054 q1055 q1056 q118 q1057) (by decide +kernel) rfl ⟨Nat.le_of_ble_eq_true rfl, Nat.le_of_ble_eq_true rfl⟩ hl.1 (hP.sub [0] rfl) (va_recv C.2.1 hP (q0 := 0) rfl rfl) rfl (Nat.le_of_ble_eq_true rfl) dJ4_addEntryToEmptyMap_3 (Nat.zero_le _) (Nat.zero_le _) ?_
  refine lv_pop hx hb dJ4_addEntryToEmptyMap_6 rfl ?_
  refine lv_aload_n hx hb dJ4_addEntryToEmptyMap_7 rfl (lv_at hl 0 rfl) ?_
  refine z_new C hP hD hS hA 14 rfl in_J18 tyJ18_ok q1274 q1275 q140 (fs := [.null, .null, .null, .null, .null, .int (zB (false))]) (fun j hj => match j, hj with | 0, _ => rfl | 1, _ => rfl | 2, _ => rfl | 3, _ => rfl | 4, _ => rfl | 5, _ => rfl | (z + 6), h => absurd h (by omega)) (Nat.le_of_ble_eq_true rfl) (Nat.le_of_ble_eq_true rfl) dJ4_addEntryToEmptyMap_8 (fun na_1 H hP hD hS => ?_)
  refine lv_dup hx hb dJ4_addEntryToEmptyMap_11 rfl ?_
  refine lv_aload_n hx hb dJ4_addEntryToEmptyMap_12 rfl (lv_at hl 1 rfl) ?_
  refine z_oload_n hx hb dJ4_addEntryToEmptyMap_13 rfl (lv_at hl 2 rfl) ?_
  refine lv_null C.1.1 C.1.2.1 dJ4_addEntryToEmptyMap_14 ?_
  refine z_gIl (n := 3) (As := [.ref (k), va_rf (v), .null]) (rest := [.ref (na_1), .ref (a)]) C hP hD hS hA (k_J18_init l D dA na_1 k v none) q1278 q140 q1276 q1277 rfl (by decide +kernel) rfl ⟨Nat.le_of_ble_eq_true rfl, Nat.le_of_ble_eq_true rfl⟩ hl.1 rfl (Nat.le_of_ble_eq_true rfl) dJ4_addEntryToEmptyMap_15 (by decide) (by decide) (fun _ H locs _ hP hD hS => ?_)
  refine W.widen (k := 1) (n := 6) (Nat.le_of_ble_eq_true rfl) (Nat.le_of_ble_eq_true rfl) ?_
  have hqn_1 : na_1 ∉ ([] : List Nat) := va_pl_fresh2 (X := [(a, .inr (13, [.null, .null, .null, .null, .int (zI (sz)), .int (zI (mc)), .null, .null, .null]))]) hD
  have hP : va_P D vwCl ([(a, .inr (13, [.null, .null, .null, .null, .int (zI (sz)), .int (zI (mc)), .null, .null, .null]))] ++ va_pl (([] : List Nat) ++ [na_1]) (trE (va_up ke na_1 k) (va_up vl na_1 v) (va_up lf na_1 none) (va_up rt na_1 none) (va_up pa na_1 none) (va_up co na_1 true))) H := by rw [← te_push hqn_1, ← List.append_assoc]; exact hP
  have hD : va_D A ([(a, .inr (13, [.null, .null, .null, .null, .int (zI (sz)), .int (zI (mc)), .null, .null, .null]))] ++ va_pl (([] : List Nat) ++ [na_1]) (trE (va_up ke na_1 k) (va_up vl na_1 v) (va_up lf na_1 none) (va_up rt na_1 none) (va_up pa na_1 none) (va_up co na_1 true))) := by rw [← te_push hqn_1, ← List.append_assoc]; exact hD
  have hP : va_P D vwCl ([(a, .inr (13, [.null, .null, .null, .null, .int (zI (sz)), .int (zI (mc)), .null, .null, .null]))] ++ va_pl ([na_1]) (trE (va_up ke na_1 k) (va_up vl na_1 v) (va_up lf na_1 none) (va_up rt na_1 none) (va_up pa na_1 none) (va_up co na_1 true))) H := hP
  have hD : va_D A ([(a, .inr (13, [.null, .null, .null, .null, .int (zI (sz)), .int (zI (mc)), .null, .null, .null]))] ++ va_pl ([na_1]) (trE (va_up ke na_1 k) (va_up vl na_1 v) (va_up lf na_1 none) (va_up rt na_1 none) (va_up pa na_1 none) (va_up co na_1 true))) := hD
  refine z_put C hP hD hS 0 rfl rfl in_J4 tyJ4_ok nmJ4 3 (by decide) q392 rfl (v := .ref (na_1)) rfl rfl (Nat.le_of_ble_eq_true rfl) (ws' := ([(a, .inr (13, [.null, .null, .null, .ref (na_1), .int (zI (sz)), .int (zI (mc)), .null, .null, .null]))] ++ va_pl ([na_1]) (trE (va_up ke na_1 k) (va_up vl na_1 v) (va_up lf na_1 none) (va_up rt na_1 none) (va_up pa na_1 none) (va_up co na_1 true)))) rfl dJ4_addEntryToEmptyMap_18 (fun H locs hP hD hS => ?_)
  refine lv_aload_n hx hb dJ4_addEntryToEmptyMap_21 rfl (lv_at hl 0 rfl) ?_
  refine z_iconst C dJ4_addEntryToEmptyMap_22 ?_
  refine z_put C hP hD hS 0 rfl rfl in_J4 tyJ4_ok nmJ4 4 (by decide) q393 rfl (v := .int (zI 1)) rfl rfl (Nat.le_of_ble_eq_true rfl) (ws' := ([(a, .inr (13, [.null, .null, .null, .ref (na_1), .int (zI 1), .int (zI (mc)), .null, .null, .null]))] ++ va_pl ([na_1]) (trE (va_up ke na_1 k) (va_up vl na_1 v) (va_up lf na_1 none) (va_up rt na_1 none) (va_up pa na_1 none) (va_up co na_1 true)))) rfl dJ4_addEntryToEmptyMap_23 (fun H locs hP hD hS => ?_)
  refine lv_aload_n hx hb dJ4_addEntryToEmptyMap_26 rfl (lv_at hl 0 rfl) ?_
  refine lv_dup hx hb dJ4_addEntryToEmptyMap_27 rfl ?_
  refine z_get C hP 0 rfl rfl in_J4 5 (by decide) q394 rfl dJ4_addEntryToEmptyMap_28 ?_
  refine z_iconst C dJ4_addEntryToEmptyMap_31 ?_
  refine z_iadd C dJ4_addEntryToEmptyMap_32 ?_
  refine z_put C hP hD hS 0 rfl rfl in_J4 tyJ4_ok nmJ4 5 (by decide) q394 rfl (v := .int (zI ((mc) + 1))) rfl rfl (Nat.le_of_ble_eq_true rfl) (ws' := ([(a, .inr (13, [.null, .null, .null, .ref (na_1), .int (zI 1), .int (zI ((mc) + 1)), .null, .null, .null]))] ++ va_pl ([na_1]) (trE (va_up ke na_1 k) (va_up vl na_1 v) (va_up lf na_1 none) (va_up rt na_1 none) (va_up pa na_1 none) (va_up co na_1 true)))) rfl dJ4_addEntryToEmptyMap_33 (fun H locs hP hD hS => ?_)
  exact z_vretG C hlk hr hQ ⟨na_1, (va_up lf na_1 none), (va_up rt na_1 none), (va_up pa na_1 none), (va_up co na_1 true)⟩ rfl tm_one hP hD hS (Nat.le_of_ble_eq_true rfl) (Nat.le_of_ble_eq_true rfl) dJ4_addEntryToEmptyMap_36

set_option maxHeartbeats 600000 in
set_option maxRecDepth 100000 in
theorem k_J4_put_2 (l : Launch) (D : va_G) (dA : Nat → ClassId) (B : Nat) (en : Nat → Nat → Nat) (fz : zFt) (k : Nat) (v : Option Nat) (kk : Int) (a : Nat) (root : Option Nat) (sz mc : Int) (K : Nat → Int) (L : List Nat) (ke : Nat → Nat) (vl lf rt pa : Nat → Option Nat) (co : Nat → Bool) (hq : tmOk K L root lf rt pa) (hsz : sz = L.length) (hv : -2147483648 ≤ kk ∧ kk ≤ 2147483647) (hkf : (k, kk) ∈ fz.1) (hKf : ∀ y, y ∈ L → (ke y, K y) ∈ fz.1) (hKr : ∀ y, y ∈ L → -2147483648 ≤ K y ∧ K y ≤ 2147483647) (hno : ∀ y, y ∈ L → K y ≠ kk) : zH (S := Nat × List Nat × List Nat × Option Nat × Int × Int × (Nat → Option Nat) × (Nat → Option Nat) × (Nat → Option Nat) × (Nat → Bool)) l yJ4_put_2 cJ4_put_2 10 (some (.object "java/lang/Object")) (zRmW 5 107 1 6) B en fz D dA [.ref (a), .ref (k), va_rf (v), .int (zI 1)] ([(a, .inr (13, [.null, .null, .null, va_rf (root), .int (zI (sz)), .int (zI (mc)), .null, .null, .null]))] ++ va_pl L (trE ke vl lf rt pa co)) (fun u : Nat × List Nat × List Nat × Option Nat × Int × Int × (Nat → Option Nat) × (Nat → Option Nat) × (Nat → Option Nat) × (Nat → Bool) => some (.null)) (fun u : Nat × List Nat × List Nat × Option Nat × Int × Int × (Nat → Option Nat) × (Nat → Option Nat) × (Nat → Option Nat) × (Nat → Bool) => L = u.2.1 ++ u.2.2.1 ∧ (∀ y, y ∈ u.2.1 → K y < kk) ∧ (∀ y, y ∈ u.2.2.1 → kk < K y) ∧ u.1 ∉ L ∧ tmOk (va_up K u.1 kk) (u.2.1 ++ u.1 :: u.2.2.1) u.2.2.2.1 u.2.2.2.2.2.2.1 u.2.2.2.2.2.2.2.1 u.2.2.2.2.2.2.2.2.1 ∧ u.2.2.2.2.1 = sz + 1 ∧ u.2.2.2.2.2.1 = mc + 1) (fun u : Nat × List Nat × List Nat × Option Nat × Int × Int × (Nat → Option Nat) × (Nat → Option Nat) × (Nat → Option Nat) × (Nat → Bool) => ([(a, .inr (13, [.null, .null, .null, va_rf (u.2.2.2.1), .int (zI (u.2.2.2.2.1)), .int (zI (u.2.2.2.2.2.1)), .null, .null, .null]))] ++ va_pl (u.2.1 ++ u.1 :: u.2.2.1) (trE (va_up ke u.1 k) (va_up vl u.1 v) u.2.2.2.2.2.2.1 u.2.2.2.2.2.2.2.1 u.2.2.2.2.2.2.2.2.1 u.2.2.2.2.2.2.2.2.2))) := by
  refine zH.of (by decide +kernel) (by cases v <;> rfl) ?_
  intro pp ee ss mm args below meth cd Q A C hr hlk hQ hA hV hin H locs hP hD hS ls hl
  have hx := C.1.1
  have hb := C.1.2.1
  have hl : lv_has ls 10 [(0, .ref (a)), (1, .ref (k)), (2, va_rf (v)), (3, .int (zI 1))] := (by cases v <;> exact hl)
  refine lv_aload_n hx hb dJ4_put_2_0 rfl (lv_at hl 0 rfl) ?_
  refine z_get C hP 0 rfl rfl in_J4 3 (by decide) q392 rfl dJ4_put_2_1 ?_
  refine z_ostore (lv' := [(4, va_rf (root)), (0, .ref (a)), (1, .ref (k)), (2, va_rf (v)), (3, .int (zI 1))]) hx hb dJ4_put_2_4 hl (by decide) rfl (fun ls hl => ?_)
  refine z_oload hx hb dJ4_put_2_6 (lv_at hl 0 rfl) ?_
  refine z_ifnonnull (tgt := 19) C dJ4_put_2_8 (by decide) (fun c_8 => ?_) (fun c_8 => ?_)
  · obtain ⟨y_8_1, hy_8_1⟩ := Option.ne_none_iff_exists'.mp c_8
    rw [hy_8_1] at hl
    rw [hy_8_1] at hP hD
    subst hy_8_1
    refine lv_aload_n hx hb dJ4_put_2_19 rfl (lv_at hl 1 rfl) ?_
    refine z_get C hP 0 rfl rfl in_J4 2 (by decide) q391 rfl dJ4_put_2_20 ?_
    refine lv_astoreN (lv' := [(7, .null), (4, .ref (y_8_1)), (0, .ref (a)), (1, .ref (k)), (2, va_rf (v)), (3, .int (zI 1))]) hx hb dJ4_put_2_23 hl (by decide) rfl (fun ls hl => ?_)
    refine lv_aloadN hx hb dJ4_put_2_25 (lv_at hl 0 rfl) ?_
    refine lv_ifnullN (tgt := 112) hx hb dJ4_put_2_27 (by decide) ?_
    refine lv_aload_n hx hb dJ4_put_2_112 rfl (lv_at hl 3 rfl) ?_
    refine z_cS (n := 1) (As := [.ref (k)]) (rest := []) C (k_J19_requireNonNull l D dA (k)) (lw_S q1303 q1304 q141 q1305) (by decide +kernel) rfl ⟨Nat.le_of_ble_eq_true rfl, Nat.le_of_ble_eq_true rfl⟩ hl.1 (hP.sub [] rfl) rfl (Nat.le_of_ble_eq_true rfl) dJ4_put_2_113 (Nat.zero_le _) (Nat.zero_le _) ?_
    refine lv_pop hx hb dJ4_put_2_116 rfl ?_
    refine lv_aload_n hx hb dJ4_put_2_117 rfl (lv_at hl 3 rfl) ?_
    refine z_castY C (List.mem_of_getElem? (i := 1) rfl) ((hV.pure hS).2.icell hkf) q1058 dJ4_put_2_118 ?_
    refine lv_astore (lv' := [(8, .ref (k)), (7, .null), (4, .ref (y_8_1)), (0, .ref (a)), (1, .ref (k)), (2, va_rf (v)), (3, .int (zI 1))]) hx hb dJ4_put_2_121 hl (by decide) rfl (fun ls hl => ?_)
    have L123 : ∀ (N : Nat) (t : Nat) (M : List Nat), (sbt K kk L lf rt (some t) M) → (M.length) < N → ∀ (H : Heap) (locs : List Loc), va_P D vwCl ([(a, .inr (13, [.null, .null, .null, .ref (y_8_1), .int (zI (sz)), .int (zI (mc)), .null, .null, .null]))] ++ va_pl L (trE ke vl lf rt pa co)) H → va_D A ([(a, .inr (13, [.null, .null, .null, .ref (y_8_1), .int (zI (sz)), .int (zI (mc)), .null, .null, .null]))] ++ va_pl L (trE ke vl lf rt pa co)) → va_S A ss.heap H locs → ∀ ls : Array Slot, lv_has ls 10 [(0, .ref (a)), (1, .ref (k)), (2, va_rf (v)), (3, .int (zI 1)), (4, .ref (t)), (7, .null), (8, .ref (k))] → W pp l ee (zRmW 5 107 1 6) ss mm args below meth cd H locs 0 0 Q (F0 mm 123 ls []) := by
      intro N
      induction N with
      | zero => intro t M _ hm; exact absurd hm (Nat.not_lt_zero _)
      | succ N ih123 =>
        intro t M hs9 hmz123 H locs hP hD hS ls hl
        refine lv_aload hx hb dJ4_put_2_123 (lv_at hl 4 rfl) ?_
        refine lv_astore (lv' := [(6, .ref (t)), (0, .ref (a)), (1, .ref (k)), (2, va_rf (v)), (3, .int (zI 1)), (4, .ref (t)), (7, .null), (8, .ref (k))]) hx hb dJ4_put_2_125 hl (by decide) rfl (fun ls hl => ?_)
        have tL_9 := (sb_in hs9 rfl).1
        refine lv_aload hx hb dJ4_put_2_127 (lv_at hl 7 rfl) ?_
        refine lv_aload hx hb dJ4_put_2_129 (lv_at hl 5 rfl) ?_
        refine z_eke (X := [(a, .inr (13, [.null, .null, .null, .ref (y_8_1), .int (zI (sz)), .int (zI (mc)), .null, .null, .null]))]) C hP tL_9 q1281 dJ4_put_2_131 ?_
        refine z_nF (n := 1) (As := [.ref (ke t)]) (rest := []) (x := yCmpTo) C ((hV.pure hS).sub (fun q9 h9 => by simp at h9; rcases h9 with h9 | h9 <;> rw [h9]; exact hkf; exact hKf t tL_9) (fun q9 h9 => by cases h9)) (k_J14_compareTo l D dA en (k) (ke t) (kk) (K t) hv (hKr t tL_9)) q1060 q1075 q1077 q133 q1079 (List.mem_of_getElem? (i := 1) rfl) 17 rfl (by decide +kernel) rfl ⟨Nat.le_of_ble_eq_true rfl, Nat.le_of_ble_eq_true rfl⟩ hl.1 (hP.sub [] rfl) ((hV.pure hS).2.icell hkf) rfl (Nat.le_of_ble_eq_true rfl) dJ4_put_2_134 (Nat.zero_le _) (Nat.zero_le _) ?_
        refine z_nm (fun cm_2 e_cm_2 => ?_)
        refine lv_istore (lv' := [(5, .int (zI (cm_2))), (6, .ref (t)), (0, .ref (a)), (1, .ref (k)), (2, va_rf (v)), (3, .int (zI 1)), (4, .ref (t)), (7, .null), (8, .ref (k))]) hx hb dJ4_put_2_139 hl (by decide) rfl (fun ls hl => ?_)
        have b_cm : (cm_2 = -1 ∧ kk < K t) ∨ (cm_2 = 0 ∧ kk = K t) ∨ (cm_2 = 1 ∧ K t < kk) := by rw [e_cm_2]; split; (exact Or.inl ⟨rfl, by assumption⟩); split; (exact Or.inr (Or.inl ⟨rfl, by assumption⟩)); (exact Or.inr (Or.inr ⟨rfl, by omega⟩))
        refine lv_iload hx hb dJ4_put_2_141 (lv_at hl 0 rfl) ?_
        refine z_if_ge (tgt := 156) C ⟨by omega, by omega⟩ dJ4_put_2_143 (by decide) (fun c_143 => ?_) (fun c_143 => ?_)
        · refine lv_iload hx hb dJ4_put_2_156 (lv_at hl 0 rfl) ?_
          refine z_if_le (tgt := 171) C ⟨by omega, by omega⟩ dJ4_put_2_158 (by decide) (fun c_158 => ?_) (fun c_158 => ?_)
          · exact absurd (show K t = kk by omega) (hno t tL_9)
          · have hlt_9 : K t < kk := by omega
            obtain ⟨M1_9, hs1_9, hm1_9⟩ := sb_right hq.2.2.1 hs9 hlt_9
            refine lv_aload hx hb dJ4_put_2_161 (lv_at hl 6 rfl) ?_
            refine z_ert (X := [(a, .inr (13, [.null, .null, .null, .ref (y_8_1), .int (zI (sz)), .int (zI (mc)), .null, .null, .null]))]) C hP tL_9 q1285 dJ4_put_2_163 ?_
            refine z_ostore (lv' := [(4, va_rf (rt t)), (5, .int (zI (cm_2))), (6, .ref (t)), (0, .ref (a)), (1, .ref (k)), (2, va_rf (v)), (3, .int (zI 1)), (7, .null), (8, .ref (k))]) hx hb dJ4_put_2_166 hl (by decide) rfl (fun ls hl => ?_)
            refine lv_goto (tgt := 196) hx hb dJ4_put_2_168 (by decide) ?_
            refine z_oload hx hb dJ4_put_2_196 (lv_at hl 0 rfl) ?_
            refine z_ifnonnull (tgt := 123) C dJ4_put_2_198 (by decide) (fun c_198 => ?_) (fun c_198 => ?_)
            · obtain ⟨y_198_3, hy_198_3⟩ := Option.ne_none_iff_exists'.mp c_198
              rw [hy_198_3] at hl
              exact ih123 (y_198_3) (M1_9) (by rw [← hy_198_3]; exact hs1_9) (by omega) H locs hP hD hS ls (lv_sub hl [3, 4, 5, 6, 0, 7, 8] rfl)
            · rw [c_198] at hl
              refine lv_aload_n hx hb dJ4_put_2_201 rfl (lv_at hl 3 rfl) ?_
              refine lv_aload_n hx hb dJ4_put_2_202 rfl (lv_at hl 4 rfl) ?_
              refine z_oload_n hx hb dJ4_put_2_203 rfl (lv_at hl 5 rfl) ?_
              refine lv_aload hx hb dJ4_put_2_204 (lv_at hl 2 rfl) ?_
              refine lv_iload hx hb dJ4_put_2_206 (lv_at hl 1 rfl) ?_
              refine z_if_ge (tgt := 215) C ⟨by omega, by omega⟩ dJ4_put_2_208 (by decide) (fun c_208 => ?_) (fun c_208 => ?_)
              · refine z_iconst C dJ4_put_2_215 ?_
                refine z_hVw (n := 4) (As := [.ref (k), va_rf (v), .ref (t), .int (zI 0)]) (rest := []) C hV hP hD hS hA (k_J4_addEntry l D dA B en (k) (t) (v) (false) (kk) (M) (a) (some (y_8_1)) (sz) (mc) (K) (L) (ke) (vl) (lf) (rt) (pa) (co) (by first | with_reducible assumption | omega | with_reducible rfl) (by first | with_reducible assumption | omega | with_reducible rfl) (by first | exact Or.inl ⟨rfl, hlt_9, c_198⟩ | exact Or.inr ⟨rfl, hlt_9, c_198⟩)) zFI.nil (lw_V q1306 q1308 qs40 q118 q1309) (by decide +kernel) rfl ⟨Nat.le_of_ble_eq_true rfl, Nat.le_of_ble_eq_true rfl⟩ hl.1 0 rfl rfl rfl (Nat.le_of_ble_eq_true rfl) dJ4_put_2_216 (by decide) (by decide) (fun u_216 H locs hp_216 hP hD hS => ?_)
                obtain ⟨q9_4, L1_5, L2_6, root1_7, lf1_8, rt1_9, pa1_10, co1_11⟩ := u_216
                have hP : va_P D vwCl ([(a, .inr (13, [.null, .null, .null, va_rf (root1_7), .int (zI (sz + 1)), .int (zI (mc + 1)), .null, .null, .null]))] ++ va_pl (L1_5 ++ q9_4 :: L2_6) (trE (va_up ke q9_4 k) (va_up vl q9_4 v) lf1_8 rt1_9 pa1_10 co1_11)) H := hP
                have hD : va_D A ([(a, .inr (13, [.null, .null, .null, va_rf (root1_7), .int (zI (sz + 1)), .int (zI (mc + 1)), .null, .null, .null]))] ++ va_pl (L1_5 ++ q9_4 :: L2_6) (trE (va_up ke q9_4 k) (va_up vl q9_4 v) lf1_8 rt1_9 pa1_10 co1_11)) := hD
                have hp_216 : L = L1_5 ++ L2_6 ∧ (∀ y, y ∈ L1_5 → K y < kk) ∧ (∀ y, y ∈ L2_6 → kk < K y) ∧ q9_4 ∉ L ∧ tmOk (va_up K q9_4 kk) (L1_5 ++ q9_4 :: L2_6) root1_7 lf1_8 rt1_9 pa1_10 := hp_216
                refine W.widen (k := 1) (n := 6) (Nat.le_of_ble_eq_true rfl) (Nat.le_of_ble_eq_true rfl) ?_
                refine lv_null C.1.1 C.1.2.1 dJ4_put_2_219 ?_
                exact z_aretG C hlk hr (Or.inl ⟨_, rfl⟩) hQ (Or.inl rfl) ⟨q9_4, L1_5, L2_6, root1_7, sz + 1, mc + 1, lf1_8, rt1_9, pa1_10, co1_11⟩ rfl ⟨hp_216.1, hp_216.2.1, hp_216.2.2.1, hp_216.2.2.2.1, hp_216.2.2.2.2, rfl, rfl⟩ hP hD hS (Nat.le_of_ble_eq_true rfl) (Nat.le_of_ble_eq_true rfl) dJ4_put_2_220
              · omega
        · have hlt_9 : kk < K t := by omega
          obtain ⟨M1_9, hs1_9, hm1_9⟩ := sb_left hq.2.2.1 hs9 hlt_9
          refine lv_aload hx hb dJ4_put_2_146 (lv_at hl 6 rfl) ?_
          refine z_elf (X := [(a, .inr (13, [.null, .null, .null, .ref (y_8_1), .int (zI (sz)), .int (zI (mc)), .null, .null, .null]))]) C hP tL_9 q1284 dJ4_put_2_148 ?_
          refine z_ostore (lv' := [(4, va_rf (lf t)), (5, .int (zI (cm_2))), (6, .ref (t)), (0, .ref (a)), (1, .ref (k)), (2, va_rf (v)), (3, .int (zI 1)), (7, .null), (8, .ref (k))]) hx hb dJ4_put_2_151 hl (by decide) rfl (fun ls hl => ?_)
          refine lv_goto (tgt := 196) hx hb dJ4_put_2_153 (by decide) ?_
          refine z_oload hx hb dJ4_put_2_196 (lv_at hl 0 rfl) ?_
          refine z_ifnonnull (tgt := 123) C dJ4_put_2_198 (by decide) (fun c_198 => ?_) (fun c_198 => ?_)
          · obtain ⟨y_198_12, hy_198_12⟩ := Option.ne_none_iff_exists'.mp c_198
            rw [hy_198_12] at hl
            exact ih123 (y_198_12) (M1_9) (by rw [← hy_198_12]; exact hs1_9) (by omega) H locs hP hD hS ls (lv_sub hl [3, 4, 5, 6, 0, 7, 8] rfl)
          · rw [c_198] at hl
            refine lv_aload_n hx hb dJ4_put_2_201 rfl (lv_at hl 3 rfl) ?_
            refine lv_aload_n hx hb dJ4_put_2_202 rfl (lv_at hl 4 rfl) ?_
            refine z_oload_n hx hb dJ4_put_2_203 rfl (lv_at hl 5 rfl) ?_
            refine lv_aload hx hb dJ4_put_2_204 (lv_at hl 2 rfl) ?_
            refine lv_iload hx hb dJ4_put_2_206 (lv_at hl 1 rfl) ?_
            refine z_if_ge (tgt := 215) C ⟨by omega, by omega⟩ dJ4_put_2_208 (by decide) (fun c_208 => ?_) (fun c_208 => ?_)
            · omega
            · refine z_iconst C dJ4_put_2_211 ?_
              refine lv_goto (tgt := 216) hx hb dJ4_put_2_212 (by decide) ?_
              refine z_hVw (n := 4) (As := [.ref (k), va_rf (v), .ref (t), .int (zI 1)]) (rest := []) C hV hP hD hS hA (k_J4_addEntry l D dA B en (k) (t) (v) (true) (kk) (M) (a) (some (y_8_1)) (sz) (mc) (K) (L) (ke) (vl) (lf) (rt) (pa) (co) (by first | with_reducible assumption | omega | with_reducible rfl) (by first | with_reducible assumption | omega | with_reducible rfl) (by first | exact Or.inl ⟨rfl, hlt_9, c_198⟩ | exact Or.inr ⟨rfl, hlt_9, c_198⟩)) zFI.nil (lw_V q1306 q1308 qs40 q118 q1309) (by decide +kernel) rfl ⟨Nat.le_of_ble_eq_true rfl, Nat.le_of_ble_eq_true rfl⟩ hl.1 0 rfl rfl rfl (Nat.le_of_ble_eq_true rfl) dJ4_put_2_216 (by decide) (by decide) (fun u_216 H locs hp_216 hP hD hS => ?_)
              obtain ⟨q9_13, L1_14, L2_15, root1_16, lf1_17, rt1_18, pa1_19, co1_20⟩ := u_216
              have hP : va_P D vwCl ([(a, .inr (13, [.null, .null, .null, va_rf (root1_16), .int (zI (sz + 1)), .int (zI (mc + 1)), .null, .null, .null]))] ++ va_pl (L1_14 ++ q9_13 :: L2_15) (trE (va_up ke q9_13 k) (va_up vl q9_13 v) lf1_17 rt1_18 pa1_19 co1_20)) H := hP
              have hD : va_D A ([(a, .inr (13, [.null, .null, .null, va_rf (root1_16), .int (zI (sz + 1)), .int (zI (mc + 1)), .null, .null, .null]))] ++ va_pl (L1_14 ++ q9_13 :: L2_15) (trE (va_up ke q9_13 k) (va_up vl q9_13 v) lf1_17 rt1_18 pa1_19 co1_20)) := hD
              have hp_216 : L = L1_14 ++ L2_15 ∧ (∀ y, y ∈ L1_14 → K y < kk) ∧ (∀ y, y ∈ L2_15 → kk < K y) ∧ q9_13 ∉ L ∧ tmOk (va_up K q9_13 kk) (L1_14 ++ q9_13 :: L2_15) root1_16 lf1_17 rt1_18 pa1_19 := hp_216
              refine W.widen (k := 1) (n := 6) (Nat.le_of_ble_eq_true rfl) (Nat.le_of_ble_eq_true rfl) ?_
              refine lv_null C.1.1 C.1.2.1 dJ4_put_2_219 ?_
              exact z_aretG C hlk hr (Or.inl ⟨_, rfl⟩) hQ (Or.inl rfl) ⟨q9_13, L1_14, L2_15, root1_16, sz + 1, mc + 1, lf1_17, rt1_18, pa1_19, co1_20⟩ rfl ⟨hp_216.1, hp_216.2.1, hp_216.2.2.1, hp_216.2.2.2.1, hp_216.2.2.2.2, rfl, rfl⟩ hP hD hS (Nat.le_of_ble_eq_true rfl) (Nat.le_of_ble_eq_true rfl) dJ4_put_2_220
    exact L123 ((L.length) + 1) (y_8_1) (L) (sb_start hq kk) (by omega) H locs hP hD hS ls (lv_sub hl [3, 4, 5, 6, 2, 1, 0] rfl)
  · rw [c_8] at hl
    rw [c_8] at hP hD
    have hL0 := tm_nil hq c_8
    have hP : va_P D vwCl ([(a, .inr (13, [.null, .null, .null, .null, .int (zI (sz)), .int (zI (mc)), .null, .null, .null]))] ++ va_pl ([] : List Nat) (trE ke vl lf rt pa co)) H := by rw [hL0] at hP; exact hP
    have hD : va_D A ([(a, .inr (13, [.null, .null, .null, .null, .int (zI (sz)), .int (zI (mc)), .null, .null, .null]))] ++ va_pl ([] : List Nat) (trE ke vl lf rt pa co)) := by rw [hL0] at hD; exact hD
    refine lv_aload_n hx hb dJ4_put_2_11 rfl (lv_at hl 1 rfl) ?_
    refine lv_aload_n hx hb dJ4_put_2_12 rfl (lv_at hl 2 rfl) ?_
    refine z_oload_n hx hb dJ4_put_2_13 rfl (lv_at hl 3 rfl) ?_
    refine z_hVw (n := 2) (As := [.ref (k), va_rf (v)]) (rest := []) C hV hP hD hS hA (k_J4_addEntryToEmptyMap l D dA B en (k) (v) (kk) (a) (sz) (mc) (K) (ke) (vl) (lf) (rt) (pa) (co) (by first | with_reducible assumption | omega | with_reducible rfl)) ((hV.fz hS).sub (fun q9 h9 => by simp at h9; rw [h9]; exact hkf) (fun q9 h9 => by cases h9)) (lw_V q1050 q1052 qs39 q118 q1053) (by decide +kernel) rfl ⟨Nat.le_of_ble_eq_true rfl, Nat.le_of_ble_eq_true rfl⟩ hl.1 0 rfl rfl rfl (Nat.le_of_ble_eq_true rfl) dJ4_put_2_14 (by decide) (by decide) (fun u_14 H locs hp_14 hP hD hS => ?_)
    obtain ⟨q9_21, lf1_22, rt1_23, pa1_24, co1_25⟩ := u_14
    have hP : va_P D vwCl ([(a, .inr (13, [.null, .null, .null, .ref (q9_21), .int (zI (1)), .int (zI (mc + 1)), .null, .null, .null]))] ++ va_pl ([q9_21]) (trE (va_up ke q9_21 k) (va_up vl q9_21 v) lf1_22 rt1_23 pa1_24 co1_25)) H := hP
    have hD : va_D A ([(a, .inr (13, [.null, .null, .null, .ref (q9_21), .int (zI (1)), .int (zI (mc + 1)), .null, .null, .null]))] ++ va_pl ([q9_21]) (trE (va_up ke q9_21 k) (va_up vl q9_21 v) lf1_22 rt1_23 pa1_24 co1_25)) := hD
    have hp_14 : tmOk (va_up K q9_21 kk) [q9_21] (some q9_21) lf1_22 rt1_23 pa1_24 := hp_14
    refine W.widen (k := 1) (n := 6) (Nat.le_of_ble_eq_true rfl) (Nat.le_of_ble_eq_true rfl) ?_
    refine lv_null C.1.1 C.1.2.1 dJ4_put_2_17 ?_
    exact z_aretG C hlk hr (Or.inl ⟨_, rfl⟩) hQ (Or.inl rfl) ⟨q9_21, [], [], some q9_21, 1, mc + 1, lf1_22, rt1_23, pa1_24, co1_25⟩ rfl ⟨hL0, (fun y hy => by cases hy), (fun y hy => by cases hy), (by rw [hL0]; exact List.not_mem_nil), hp_14, (by rw [hsz, hL0]; rfl), rfl⟩ hP hD hS (Nat.le_of_ble_eq_true rfl) (Nat.le_of_ble_eq_true rfl) dJ4_put_2_18

set_option maxHeartbeats 600000 in
set_option maxRecDepth 100000 in
theorem k_J4_put (l : Launch) (D : va_G) (dA : Nat → ClassId) (B : Nat) (en : Nat → Nat → Nat) (fz : zFt) (k : Nat) (v : Option Nat) (kk : Int) (a : Nat) (root : Option Nat) (sz mc : Int) (K : Nat → Int) (L : List Nat) (ke : Nat → Nat) (vl lf rt pa : Nat → Option Nat) (co : Nat → Bool) (hq : tmOk K L root lf rt pa) (hsz : sz = L.length) (hv : -2147483648 ≤ kk ∧ kk ≤ 2147483647) (hkf : (k, kk) ∈ fz.1) (hKf : ∀ y, y ∈ L → (ke y, K y) ∈ fz.1) (hKr : ∀ y, y ∈ L → -2147483648 ≤ K y ∧ K y ≤ 2147483647) (hno : ∀ y, y ∈ L → K y ≠ kk) : zH (S := Nat × List Nat × List Nat × Option Nat × Int × Int × (Nat → Option Nat) × (Nat → Option Nat) × (Nat → Option Nat) × (Nat → Bool)) l yJ4_put cJ4_put 3 (some (.object "java/lang/Object")) (zRmW 6 136 1 6) B en fz D dA [.ref (a), .ref (k), va_rf (v)] ([(a, .inr (13, [.null, .null, .null, va_rf (root), .int (zI (sz)), .int (zI (mc)), .null, .null, .null]))] ++ va_pl L (trE ke vl lf rt pa co)) (fun u : Nat × List Nat × List Nat × Option Nat × Int × Int × (Nat → Option Nat) × (Nat → Option Nat) × (Nat → Option Nat) × (Nat → Bool) => some (.null)) (fun u : Nat × List Nat × List Nat × Option Nat × Int × Int × (Nat → Option Nat) × (Nat → Option Nat) × (Nat → Option Nat) × (Nat → Bool) => L = u.2.1 ++ u.2.2.1 ∧ (∀ y, y ∈ u.2.1 → K y < kk) ∧ (∀ y, y ∈ u.2.2.1 → kk < K y) ∧ u.1 ∉ L ∧ tmOk (va_up K u.1 kk) (u.2.1 ++ u.1 :: u.2.2.1) u.2.2.2.1 u.2.2.2.2.2.2.1 u.2.2.2.2.2.2.2.1 u.2.2.2.2.2.2.2.2.1 ∧ u.2.2.2.2.1 = sz + 1 ∧ u.2.2.2.2.2.1 = mc + 1) (fun u : Nat × List Nat × List Nat × Option Nat × Int × Int × (Nat → Option Nat) × (Nat → Option Nat) × (Nat → Option Nat) × (Nat → Bool) => ([(a, .inr (13, [.null, .null, .null, va_rf (u.2.2.2.1), .int (zI (u.2.2.2.2.1)), .int (zI (u.2.2.2.2.2.1)), .null, .null, .null]))] ++ va_pl (u.2.1 ++ u.1 :: u.2.2.1) (trE (va_up ke u.1 k) (va_up vl u.1 v) u.2.2.2.2.2.2.1 u.2.2.2.2.2.2.2.1 u.2.2.2.2.2.2.2.2.1 u.2.2.2.2.2.2.2.2.2))) := by
  refine zH.of (by decide +kernel) (by cases v <;> rfl) ?_
  intro pp ee ss mm args below meth cd Q A C hr hlk hQ hA hV hin H locs hP hD hS ls hl
  have hx := C.1.1
  have hb := C.1.2.1
  have hl : lv_has ls 3 [(0, .ref (a)), (1, .ref (k)), (2, va_rf (v))] := (by cases v <;> exact hl)
  refine lv_aload_n hx hb dJ4_put_0 rfl (lv_at hl 0 rfl) ?_
  refine lv_aload_n hx hb dJ4_put_1 rfl (lv_at hl 1 rfl) ?_
  refine z_oload_n hx hb dJ4_put_2 rfl (lv_at hl 2 rfl) ?_
  refine z_iconst C dJ4_put_3 ?_
  refine z_hVw (n := 3) (As := [.ref (k), va_rf (v), .int (zI 1)]) (rest := []) C hV hP hD hS hA (k_J4_put_2 l D dA B en (fz) (k) (v) (kk) (a) (root) (sz) (mc) (K) (L) (ke) (vl) (lf) (rt) (pa) (co) (by first | with_reducible assumption | omega | with_reducible rfl) (by first | with_reducible assumption | omega | with_reducible rfl) (by first | with_reducible assumption | omega | with_reducible rfl) (by first | with_reducible assumption | omega | with_reducible rfl) (by first | with_reducible assumption | omega | with_reducible rfl) (by first | with_reducible assumption | omega | with_reducible rfl) (by first | with_reducible assumption | omega | with_reducible rfl)) (hV.fz hS) (lw_V q1046 q1048 qs38 q118 q1049) (by decide +kernel) rfl ⟨Nat.le_of_ble_eq_true rfl, Nat.le_of_ble_eq_true rfl⟩ hl.1 0 rfl rfl rfl (Nat.le_of_ble_eq_true rfl) dJ4_put_4 (by decide) (by decide) (fun u_4 H locs hp_4 hP hD hS => ?_)
  obtain ⟨q9_1, L1_2, L2_3, root1_4, sz1_5, mc1_6, lf1_7, rt1_8, pa1_9, co1_10⟩ := u_4
  have hP : va_P D vwCl ([(a, .inr (13, [.null, .null, .null, va_rf (root1_4), .int (zI (sz1_5)), .int (zI (mc1_6)), .null, .null, .null]))] ++ va_pl (L1_2 ++ q9_1 :: L2_3) (trE (va_up ke q9_1 k) (va_up vl q9_1 v) lf1_7 rt1_8 pa1_9 co1_10)) H := hP
  have hD : va_D A ([(a, .inr (13, [.null, .null, .null, va_rf (root1_4), .int (zI (sz1_5)), .int (zI (mc1_6)), .null, .null, .null]))] ++ va_pl (L1_2 ++ q9_1 :: L2_3) (trE (va_up ke q9_1 k) (va_up vl q9_1 v) lf1_7 rt1_8 pa1_9 co1_10)) := hD
  have hp_4 : L = L1_2 ++ L2_3 ∧ (∀ y, y ∈ L1_2 → K y < kk) ∧ (∀ y, y ∈ L2_3 → kk < K y) ∧ q9_1 ∉ L ∧ tmOk (va_up K q9_1 kk) (L1_2 ++ q9_1 :: L2_3) root1_4 lf1_7 rt1_8 pa1_9 ∧ sz1_5 = sz + 1 ∧ mc1_6 = mc + 1 := hp_4
  refine W.widen (k := 1) (n := 6) (Nat.le_of_ble_eq_true rfl) (Nat.le_of_ble_eq_true rfl) ?_
  exact z_aretG C hlk hr (Or.inl ⟨_, rfl⟩) hQ (Or.inl rfl) ⟨q9_1, L1_2, L2_3, root1_4, sz1_5, mc1_6, lf1_7, rt1_8, pa1_9, co1_10⟩ rfl hp_4 hP hD hS (Nat.le_of_ble_eq_true rfl) (Nat.le_of_ble_eq_true rfl) dJ4_put_7
