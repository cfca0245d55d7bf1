/-! Energies.placeOf (printed by tools/s_en3.py) -/
theorem fzE_mono {en : Nat → Nat → Nat} {LI LI1 : List Nat} {iv iv1 : Nat → Int} (h : ∀ y, y ∈ LI → y ∈ LI1 ∧ iv1 y = iv y) {q : Nat × Int} (hq : q ∈ (fzE en LI iv).1) : q ∈ (fzE en LI1 iv1).1 := by
  rcases List.mem_append.mp hq with z | z
  · exact List.mem_append_left _ z
  · obtain ⟨y, hy, rfl⟩ := List.mem_map.mp z
    rw [← (h y hy).2]
    exact fzE_new (h y hy).1
theorem srt_lt {K : Nat → Int} {L : List Nat} (hs : L.Pairwise (fun x y => K x < K y)) {i j a b : Nat} (hi : L[i]? = some a) (hj : L[j]? = some b) (h : i < j) : K a < K b := by
  obtain ⟨h1, rfl⟩ := List.getElem?_eq_some_iff.mp hi
  obtain ⟨h2, rfl⟩ := List.getElem?_eq_some_iff.mp hj
  exact List.pairwise_iff_getElem.mp hs i j h1 h2 h
theorem nxk_at {K : Nat → Int} {L : List Nat} (hs : L.Pairwise (fun x y => K x < K y)) {j y : Nat} (hj : L[j]? = some y) : nxk K (K y) L = L[j + 1]? := by
  have e9 : L = L.take (j + 1) ++ L.drop (j + 1) := (List.take_append_drop _ _).symm
  have h9 : nxk K (K y) (L.take (j + 1) ++ L.drop (j + 1)) = (L.drop (j + 1)).head? := by
    refine nxk_split (fun x hx => ?_) (fun x hx => ?_)
    · obtain ⟨i, hi⟩ := List.getElem?_of_mem hx
      rw [List.getElem?_take] at hi
      split at hi
      · rename_i q
        rcases Nat.lt_or_ge i j with z | z
        · exact Int.le_of_lt (srt_lt hs hi hj z)
        · have : i = j := by omega
          subst this
          rw [hj] at hi
          cases hi
          exact Int.le_refl _
      · cases hi
    · obtain ⟨i, hi⟩ := List.getElem?_of_mem hx
      rw [List.getElem?_drop] at hi
      exact srt_lt hs hj hi (by omega)
  rw [← e9] at h9
  rw [h9, List.head?_drop]
theorem plc_eq {K : Nat → Int} {L : List Nat} (hs : L.Pairwise (fun x y => K x < K y)) {i j y z : Nat} (hj : L[j]? = some y) (hz : L[i]? = some z) (h : j ≤ i) (e9 : K y = K z) : j = i := by
  rcases Nat.lt_or_ge j i with q | q
  · have := srt_lt hs hj hz q
    omega
  · omega
theorem plc_lt {K : Nat → Int} {L : List Nat} {i j y z : Nat} (hj : L[j]? = some y) (hz : L[i]? = some z) (h : j ≤ i) (e9 : K y ≠ K z) : j < i := by
  rcases Nat.lt_or_ge j i with q | q
  · exact q
  · have : j = i := by omega
    subst this
    rw [hz] at hj
    cases hj
    exact absurd rfl e9

set_option maxHeartbeats 600000 in
set_option maxRecDepth 100000 in
theorem k_X5_placeOf (l : Launch) (D : va_G) (dA : Nat → ClassId) (B : Nat) (en : Nat → Nat → Nat) (a qm : Nat) (y1 y2q y3 y4 y5 y6 : Value) (lst : Int) (root : Option Nat) (sz mc : Int) (K : Nat → Int) (L : List Nat) (ke : Nat → Nat) (vl lf rt pa : Nat → Option Nat) (co : Nat → Bool) (LI0 : List Nat) (iv0 : Nat → Int) (ex : Int) (i0 z0 : Nat) (hq : tmOk K L root lf rt pa) (hex : zR ex) (hz0 : L[i0]? = some z0) (hKz : K z0 = ex) (hKr : ∀ y, y ∈ L → -2147483648 ≤ K y ∧ K y ≤ 2147483647) (hKf0 : ∀ y, y ∈ L → (ke y, K y) ∈ (fzE en LI0 iv0).1) (hLn : L.length ≤ 1000) : zH (S := List Nat × (Nat → Int)) l yX5_placeOf cX5_placeOf 4 (some .int) (zRmW 6 131 L.length L.length) B en ([], []) D dA [.ref (a), .int (zI (ex))] ([(a, .inr (5, [y1, y2q, y3, .ref (qm), y4, y5, .int (zI (lst)), y6])), (qm, .inr (13, [.null, .null, .null, va_rf (root), .int (zI (sz)), .int (zI (mc)), .null, .null, .null]))] ++ (va_pl LI0 (itE iv0) ++ (va_pl L (trE ke vl lf rt pa co)))) (fun u : List Nat × (Nat → Int) => some (.int (zI ((i0 : Nat) : Int)))) (fun u : List Nat × (Nat → Int) => ∀ y, y ∈ LI0 → y ∈ u.1 ∧ u.2 y = iv0 y) (fun u : List Nat × (Nat → Int) => ([(a, .inr (5, [y1, y2q, y3, .ref (qm), y4, y5, .int (zI (lst)), y6])), (qm, .inr (13, [.null, .null, .null, va_rf (root), .int (zI (sz)), .int (zI (mc)), .null, .null, .null]))] ++ (va_pl u.1 (itE u.2) ++ (va_pl L (trE ke vl lf rt pa co))))) := by
  refine zH.of (by decide +kernel) rfl ?_
  intro pp ee ss mm args below meth cd Q A C hr hlk hQ hA hV hin H locs hP hD hS ls hl
  have hx := C.1.1
  have hb := C.1.2.1
  have hl : lv_has ls 4 [(0, .ref (a)), (1, .int (zI (ex)))] := hl
  have hi0 := (List.getElem?_eq_some_iff.mp hz0).1
  obtain ⟨x0, hx1⟩ : ∃ x0, L[0]? = some x0 := ⟨L[0]'(by omega), List.getElem?_eq_getElem (by omega)⟩
  have hx0 : L.head? = some x0 := by rw [List.head?_eq_getElem?]; exact hx1
  have mx0 : x0 ∈ L := List.mem_of_getElem? hx1
  have hr0 := hKr x0 mx0
  refine z_iconst C dX5_placeOf_0 ?_
  refine lv_istore_n (lv' := [(2, .int (zI 0)), (0, .ref (a)), (1, .int (zI (ex)))]) hx hb dX5_placeOf_1 rfl hl (by decide) rfl (fun ls hl => ?_)
  refine lv_aload_n hx hb dX5_placeOf_2 rfl (lv_at hl 1 rfl) ?_
  refine z_get C hP 0 rfl rfl in_X5 3 (by decide) q418 rfl dX5_placeOf_3 ?_
  refine z_cV (n := 0) (As := []) (rest := []) C hP (k_J4_firstKey l D dA (x0) (qm) (root) (sz) (mc) (K) (L) (ke) (vl) (lf) (rt) (pa) (co) hq hx0) (lw_V q1363 q1364 q1365 q118 q1366) (by decide +kernel) rfl ⟨Nat.le_of_ble_eq_true rfl, Nat.le_of_ble_eq_true rfl⟩ hl.1 (P_part (X := ([(a, .inr (5, [y1, y2q, y3, .ref (qm), y4, y5, .int (zI (lst)), y6]))] ++ va_pl LI0 (itE iv0))) (Y := ([(qm, .inr (13, [.null, .null, .null, va_rf (root), .int (zI (sz)), .int (zI (mc)), .null, .null, .null]))] ++ va_pl L (trE ke vl lf rt pa co))) (perm_ct (fun p9 => by simp only [List.countP_append, List.countP_cons, List.countP_nil, List.cons_append, List.nil_append, List.append_nil] <;> omega)) hP) 1 rfl rfl rfl (Nat.le_of_ble_eq_true rfl) dX5_placeOf_6 (Nat.zero_le _) (Nat.zero_le _) ?_
  refine z_castE C ((zEw_it (LI := LI0) (iv := iv0) C hV hS hP (fun q hq => List.mem_append_right _ (List.mem_append_left _ hq))).2.icell (hKf0 x0 mx0)) q1374 dX5_placeOf_9 ?_
  refine z_nV (n := 0) (As := []) (rest := []) C ((zEw_it (LI := LI0) (iv := iv0) C hV hS hP (fun q hq => List.mem_append_right _ (List.mem_append_left _ hq))).sub (fun q9 h9 => by rw [List.mem_singleton.mp h9]; exact (hKf0 x0 mx0)) (fun q9 h9 => absurd h9 List.not_mem_nil)) (k_J14_intValue l D dA en (ke x0) (K x0)) (lw_V q1375 q1261 q1262 q133 q1263) (by decide +kernel) rfl ⟨Nat.le_of_ble_eq_true rfl, Nat.le_of_ble_eq_true rfl⟩ hl.1 (hP.sub [] rfl) (((zEw_it (LI := LI0) (iv := iv0) C hV hS hP (fun q hq => List.mem_append_right _ (List.mem_append_left _ hq)))).2.icell (hKf0 x0 mx0)) rfl (Nat.le_of_ble_eq_true rfl) dX5_placeOf_12 (Nat.zero_le _) (Nat.zero_le _) ?_
  refine lv_istore_n (lv' := [(3, .int (zI ((K x0)))), (2, .int (zI 0)), (0, .ref (a)), (1, .int (zI (ex)))]) hx hb dX5_placeOf_15 rfl hl (by decide) rfl (fun ls hl => ?_)
  have L16 : ∀ (N : Nat) (j y : Nat) (LI : List Nat) (iv : Nat → Int), (L[j]? = some y) → (j ≤ i0) → (∀ y, y ∈ L → (ke y, K y) ∈ (fzE en LI iv).1) → (∀ y, y ∈ LI0 → y ∈ LI ∧ iv y = iv0 y) → (i0 - j) < N → ∀ (H : Heap) (locs : List Loc), va_P D vwCl ([(a, .inr (5, [y1, y2q, y3, .ref (qm), y4, y5, .int (zI (lst)), y6])), (qm, .inr (13, [.null, .null, .null, va_rf (root), .int (zI (sz)), .int (zI (mc)), .null, .null, .null]))] ++ (va_pl LI (itE iv) ++ (va_pl L (trE ke vl lf rt pa co)))) H → va_D A ([(a, .inr (5, [y1, y2q, y3, .ref (qm), y4, y5, .int (zI (lst)), y6])), (qm, .inr (13, [.null, .null, .null, va_rf (root), .int (zI (sz)), .int (zI (mc)), .null, .null, .null]))] ++ (va_pl LI (itE iv) ++ (va_pl L (trE ke vl lf rt pa co)))) → va_S A ss.heap H locs → ∀ ls : Array Slot, lv_has ls 4 [(0, .ref (a)), (1, .int (zI (ex))), (2, .int (zI ((j : Nat) : Int))), (3, .int (zI (K y)))] → W pp l ee (zRmW 6 131 L.length L.length) ss mm args below meth cd H locs j j Q (F0 mm 16 ls []) := by
    intro N
    induction N with
    | zero => intro j y LI iv _ _ _ _ hm; exact absurd hm (Nat.not_lt_zero _)
    | succ N ih16 =>
      intro j y LI iv hj hji hKf hLI hmz16 H locs hP hD hS ls hl
      have my : y ∈ L := List.mem_of_getElem? hj
      have r9 := hKr y my
      refine lv_iload_n hx hb dX5_placeOf_16 rfl (lv_at hl 3 rfl) ?_
      refine lv_iload_n hx hb dX5_placeOf_17 rfl (lv_at hl 1 rfl) ?_
      refine z_icmp_eq (tgt := 45) C ⟨by omega, by omega⟩ ⟨by omega, by omega⟩ dX5_placeOf_18 (by decide) (fun c_18 => ?_) (fun c_18 => ?_)
      · refine lv_iload_n hx hb dX5_placeOf_45 rfl (lv_at hl 2 rfl) ?_
        exact z_iretG C hlk hr hQ ⟨LI, iv⟩ (by rw [plc_eq hq.2.2.1 hj hz0 hji (by omega)]) hLI hP hD hS (by dsimp only; omega) (by dsimp only; omega) dX5_placeOf_46
      · have lt9 : j < i0 := plc_lt (K := K) hj hz0 hji (by omega)
        obtain ⟨y2, hy2⟩ : ∃ y2, L[j + 1]? = some y2 := ⟨L[j + 1]'(by omega), List.getElem?_eq_getElem (by omega)⟩
        have nx9 : nxk K (K y) L = some y2 := (nxk_at hq.2.2.1 hj).trans hy2
        have my2 : y2 ∈ L := List.mem_of_getElem? hy2
        have r8 := hKr y2 my2
        refine lv_iinc (v := zI ((j + 1 : Nat) : Int)) (lv' := [(2, .int (zI ((j + 1 : Nat) : Int))), (0, .ref (a)), (1, .int (zI (ex))), (3, .int (zI (K y)))]) hx hb dX5_placeOf_21 hl (k := 2) rfl (zI_inc (by omega)) (by decide) rfl (fun ls hl => ?_)
        refine lv_aload_n hx hb dX5_placeOf_24 rfl (lv_at hl 1 rfl) ?_
        refine z_get C hP 0 rfl rfl in_X5 3 (by decide) q418 rfl dX5_placeOf_25 ?_
        refine lv_iload_n hx hb dX5_placeOf_28 rfl (lv_at hl 3 rfl) ?_
        refine z_box (X := ([(a, .inr (5, [y1, y2q, y3, .ref (qm), y4, y5, .int (zI (lst)), y6])), (qm, .inr (13, [.null, .null, .null, va_rf (root), .int (zI (sz)), .int (zI (mc)), .null, .null, .null]))] ++ va_pl L (trE ke vl lf rt pa co))) (LI := LI) (iv := iv) (v := K y) (rest := [.ref (qm)]) C hV hP hD hS hA (perm_ct (fun p9 => by simp only [List.countP_append, List.countP_cons, List.countP_nil, List.cons_append, List.nil_append, List.append_nil] <;> omega)) (by omega) (lw_S q1022 q1023 q133 q1024) ⟨Nat.le_of_ble_eq_true rfl, Nat.le_of_ble_eq_true rfl⟩ hl.1 (Nat.le_of_ble_eq_true rfl) dX5_placeOf_29 (by dsimp only; omega) (by dsimp only; omega) (fun k9_1 LI_1 iv_1 H locs bm_1 bk_1 hP hD hS => ?_)
        have hP : va_P D vwCl ([(a, .inr (5, [y1, y2q, y3, .ref (qm), y4, y5, .int (zI (lst)), y6])), (qm, .inr (13, [.null, .null, .null, va_rf (root), .int (zI (sz)), .int (zI (mc)), .null, .null, .null]))] ++ (va_pl LI_1 (itE iv_1) ++ (va_pl L (trE ke vl lf rt pa co)))) H := P_perm (w1 := (([(a, .inr (5, [y1, y2q, y3, .ref (qm), y4, y5, .int (zI (lst)), y6])), (qm, .inr (13, [.null, .null, .null, va_rf (root), .int (zI (sz)), .int (zI (mc)), .null, .null, .null]))] ++ va_pl L (trE ke vl lf rt pa co)) ++ va_pl LI_1 (itE iv_1))) (perm_ct (fun p9 => by simp only [List.countP_append, List.countP_cons, List.countP_nil, List.cons_append, List.nil_append, List.append_nil] <;> omega)) hP
        have hD : va_D A ([(a, .inr (5, [y1, y2q, y3, .ref (qm), y4, y5, .int (zI (lst)), y6])), (qm, .inr (13, [.null, .null, .null, va_rf (root), .int (zI (sz)), .int (zI (mc)), .null, .null, .null]))] ++ (va_pl LI_1 (itE iv_1) ++ (va_pl L (trE ke vl lf rt pa co)))) := D_perm (w1 := (([(a, .inr (5, [y1, y2q, y3, .ref (qm), y4, y5, .int (zI (lst)), y6])), (qm, .inr (13, [.null, .null, .null, va_rf (root), .int (zI (sz)), .int (zI (mc)), .null, .null, .null]))] ++ va_pl L (trE ke vl lf rt pa co)) ++ va_pl LI_1 (itE iv_1))) (perm_ct (fun p9 => by simp only [List.countP_append, List.countP_cons, List.countP_nil, List.cons_append, List.nil_append, List.append_nil] <;> omega)) hD
        refine z_nV (n := 1) (As := [.ref (k9_1)]) (rest := []) C (zEw_it (LI := LI_1) (iv := iv_1) C hV hS hP (fun q hq => List.mem_append_right _ (List.mem_append_left _ hq))) (k_J4_higherKey l D dA en ((fzE en LI_1 iv_1)) (k9_1) ((K y)) (qm) (root) (sz) (mc) (K) (L) (ke) (vl) (lf) (rt) (pa) (co) hq r9 bm_1 (fun q hq => fzE_mono bk_1 (hKf q hq)) hKr) (lw_V q1417 q1418 q1419 q118 q1420) (by decide +kernel) rfl ⟨Nat.le_of_ble_eq_true rfl, Nat.le_of_ble_eq_true rfl⟩ hl.1 (P_part (X := ([(a, .inr (5, [y1, y2q, y3, .ref (qm), y4, y5, .int (zI (lst)), y6]))] ++ va_pl LI_1 (itE iv_1))) (Y := ([(qm, .inr (13, [.null, .null, .null, va_rf (root), .int (zI (sz)), .int (zI (mc)), .null, .null, .null]))] ++ va_pl L (trE ke vl lf rt pa co))) (perm_ct (fun p9 => by simp only [List.countP_append, List.countP_cons, List.countP_nil, List.cons_append, List.nil_append, List.append_nil] <;> omega)) hP) (va_recv C.2.1 hP (q0 := 1) rfl rfl) rfl (Nat.le_of_ble_eq_true rfl) dX5_placeOf_32 (by dsimp only; omega) (by dsimp only; omega) ?_
        rw [show (nxk K (K y) L).map ke = some (ke y2) by rw [nx9]; rfl]
        refine z_castE C ((zEw_it (LI := LI_1) (iv := iv_1) C hV hS hP (fun q hq => List.mem_append_right _ (List.mem_append_left _ hq))).2.icell (fzE_mono bk_1 (hKf y2 my2))) q1374 dX5_placeOf_35 ?_
        refine z_nV (n := 0) (As := []) (rest := []) C ((zEw_it (LI := LI_1) (iv := iv_1) C hV hS hP (fun q hq => List.mem_append_right _ (List.mem_append_left _ hq))).sub (fun q9 h9 => by rw [List.mem_singleton.mp h9]; exact (fzE_mono bk_1 (hKf y2 my2))) (fun q9 h9 => absurd h9 List.not_mem_nil)) (k_J14_intValue l D dA en (ke y2) (K y2)) (lw_V q1375 q1261 q1262 q133 q1263) (by decide +kernel) rfl ⟨Nat.le_of_ble_eq_true rfl, Nat.le_of_ble_eq_true rfl⟩ hl.1 (hP.sub [] rfl) (((zEw_it (LI := LI_1) (iv := iv_1) C hV hS hP (fun q hq => List.mem_append_right _ (List.mem_append_left _ hq)))).2.icell (fzE_mono bk_1 (hKf y2 my2))) rfl (Nat.le_of_ble_eq_true rfl) dX5_placeOf_38 (by dsimp only; omega) (by dsimp only; omega) ?_
        refine lv_istore_n (lv' := [(3, .int (zI ((K y2)))), (2, .int (zI ((j + 1 : Nat) : Int))), (0, .ref (a)), (1, .int (zI (ex)))]) hx hb dX5_placeOf_41 rfl hl (by decide) rfl (fun ls hl => ?_)
        refine lv_goto (tgt := 16) hx hb dX5_placeOf_42 (by decide) ?_
        refine W.widen (k := (j + 1)) (n := (j + 1)) (by omega) (by omega) ?_
        exact ih16 (j + 1) (y2) (LI_1) (iv_1) hy2 (by omega) (fun q hq => fzE_mono bk_1 (hKf q hq)) (fun q hq => ⟨(bk_1 q (hLI q hq).1).1, ((bk_1 q (hLI q hq).1).2).trans (hLI q hq).2⟩) (by omega) H locs hP hD hS ls (lv_sub hl [2, 3, 1, 0] rfl)
  refine W.widen (k := 0) (n := 0) (by omega) (by omega) ?_
  exact L16 ((i0 - 0) + 1) (0) (x0) (LI0) (iv0) hx1 (by omega) hKf0 (fun y hy => ⟨hy, rfl⟩) (by omega) H locs hP hD hS ls (lv_sub hl [2, 3, 1, 0] rfl)
