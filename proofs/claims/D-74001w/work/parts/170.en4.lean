/-! Energies.at (printed by tools/s_en4.py) -/
theorem get_at {K : Nat → Int} {L : List Nat} (hs : L.Pairwise (fun x y => K x < K y)) {i z : Nat} (hz : L[i]? = some z) : ∀ q, some z = some q ↔ (q ∈ L ∧ K q = K z) := by
  intro q
  constructor
  · intro h
    cases h
    exact ⟨List.mem_of_getElem? hz, rfl⟩
  · rintro ⟨h1, h2⟩
    obtain ⟨j, hj⟩ := List.getElem?_of_mem h1
    rcases Nat.lt_trichotomy j i with q9 | q9 | q9
    · have := srt_lt hs hj hz q9; omega
    · subst q9
      exact hz.symm.trans hj
    · have := srt_lt hs hz hj q9; omega

set_option maxHeartbeats 600000 in
set_option maxRecDepth 100000 in
theorem k_X5_at_out (l : Launch) (D : va_G) (dA : Nat → ClassId) (B : Nat) (en : Nat → Nat → Nat) (a qm : Nat) (y1 y2q y3 y4 y5 y6 : Value) (lst : Int) (root : Option Nat) (sz mc : Int) (K : Nat → Int) (L : List Nat) (ke : Nat → Nat) (vl lf rt pa : Nat → Option Nat) (co : Nat → Bool) (LI0 : List Nat) (iv0 : Nat → Int) (LL : List Nat) (ge : Nat → Int) (gf gm gw gt : Nat → Nat) (ii : Int) (hq : tmOk K L root lf rt pa) (hsz : sz = (L.length : Int)) (hLn : L.length ≤ 1000) (h1 : zR ii) (ho : ii < 0 ∨ (L.length : Int) ≤ ii) : zH (S := Unit) l yX5_at cX5_at 4 (some (.object "SpinStrip$Level")) (zRmW 1 22 0 0) B en ([], []) D dA [.ref (a), .int (zI (ii))] ([(a, .inr (5, [y1, y2q, y3, .ref (qm), y4, y5, .int (zI (lst)), y6])), (qm, .inr (13, [.null, .null, .null, va_rf (root), .int (zI (sz)), .int (zI (mc)), .null, .null, .null]))] ++ (va_pl LL (lvE ge gf gm gw gt) ++ (va_pl LI0 (itE iv0) ++ (va_pl L (trE ke vl lf rt pa co))))) (fun _ : Unit => some (.null)) (fun _ : Unit => True) (fun _ : Unit => ([(a, .inr (5, [y1, y2q, y3, .ref (qm), y4, y5, .int (zI (lst)), y6])), (qm, .inr (13, [.null, .null, .null, va_rf (root), .int (zI (sz)), .int (zI (mc)), .null, .null, .null]))] ++ (va_pl LL (lvE ge gf gm gw gt) ++ (va_pl LI0 (itE iv0) ++ (va_pl L (trE ke vl lf rt pa co)))))) := by
  refine zH.of (by decide +kernel) rfl ?_
  intro pp ee ss mm args below meth cd Q A C hr hlk hQ hA hV hin H locs hP hD hS ls hl
  have hx := C.1.1
  have hb := C.1.2.1
  have hl : lv_has ls 4 [(0, .ref (a)), (1, .int (zI (ii)))] := hl
  refine lv_iload_n hx hb dX5_at_0 rfl (lv_at hl 1 rfl) ?_
  refine z_iconst C dX5_at_1 ?_
  refine lv_aload_n hx hb dX5_at_2 rfl (lv_at hl 0 rfl) ?_
  refine z_get C hP 0 rfl rfl in_X5 3 (by decide) q418 rfl dX5_at_3 ?_
  refine z_cV (n := 0) (As := []) (rest := [.int (zI 0), .int (zI (ii))]) C hP (k_J4_size l D dA (qm) (root) (sz) (mc)) (lw_V q1411 q1360 q2386 q118 q1361) (by decide +kernel) rfl ⟨Nat.le_of_ble_eq_true rfl, Nat.le_of_ble_eq_true rfl⟩ hl.1 (hP.sub [1] rfl) 1 rfl rfl rfl (Nat.le_of_ble_eq_true rfl) dX5_at_6 (Nat.zero_le _) (Nat.zero_le _) ?_
  refine z_iconst C dX5_at_9 ?_
  refine z_isub C dX5_at_10 ?_
  refine z_cSN (n := 3) (As := [.int (zI (ii)), .int (zI 0), .int (zI ((sz) - 1))]) (rest := []) C (k_X0_isIn l D dA (ii) (0) ((sz) - 1) (by first | with_reducible assumption | omega | with_reducible rfl) (by first | with_reducible assumption | omega | with_reducible rfl) (by first | with_reducible assumption | omega | with_reducible rfl)) (List.mem_of_getElem? (i := 4) rfl) q740 q108 q739 (by decide +kernel) rfl ⟨Nat.le_of_ble_eq_true rfl, Nat.le_of_ble_eq_true rfl⟩ hl.1 (hP.sub [] rfl) rfl (Nat.le_of_ble_eq_true rfl) dX5_at_11 (Nat.zero_le _) (Nat.zero_le _) ?_
  refine z_if_neB (tgt := 19) C dX5_at_14 (by decide) (fun c_14 => ?_) (fun c_14 => ?_)
  · have c_14 := of_decide_eq_true c_14; omega
  · have c_14 := of_decide_eq_false c_14
    refine lv_null C.1.1 C.1.2.1 dX5_at_17 ?_
    exact z_aretG C hlk hr (Or.inl ⟨_, rfl⟩) hQ (Or.inl rfl) () rfl trivial hP hD hS (Nat.le_of_ble_eq_true rfl) (Nat.le_of_ble_eq_true rfl) dX5_at_18

set_option maxHeartbeats 600000 in
set_option maxRecDepth 100000 in
theorem k_X5_at_in (l : Launch) (D : va_G) (dA : Nat → ClassId) (B : Nat) (en : Nat → Nat → Nat) (a qm : Nat) (y1 y2q y3 y4 y5 y6 : Value) (lst : Int) (root : Option Nat) (sz mc : Int) (K : Nat → Int) (L : List Nat) (ke : Nat → Nat) (vl lf rt pa : Nat → Option Nat) (co : Nat → Bool) (LI0 : List Nat) (iv0 : Nat → Int) (LL : List Nat) (ge : Nat → Int) (gf gm gw gt : Nat → Nat) (i0 z0 lv0 : Nat) (hq : tmOk K L root lf rt pa) (hsz : sz = (L.length : Int)) (hLn : L.length ≤ 1000) (hz0 : L[i0]? = some z0) (hvl : vl z0 = some lv0) (hlv : lv0 ∈ LL) (hKr : ∀ y, y ∈ L → -2147483648 ≤ K y ∧ K y ≤ 2147483647) (hKf0 : ∀ y, y ∈ L → (ke y, K y) ∈ (fzE en LI0 iv0).1) : zH (S := List Nat × (Nat → Int)) l yX5_at cX5_at 4 (some (.object "SpinStrip$Level")) (zRmW 6 131 (L.length + 1) (L.length + 1)) B en ([], []) D dA [.ref (a), .int (zI ((i0 : Nat) : Int))] ([(a, .inr (5, [y1, y2q, y3, .ref (qm), y4, y5, .int (zI (lst)), y6])), (qm, .inr (13, [.null, .null, .null, va_rf (root), .int (zI (sz)), .int (zI (mc)), .null, .null, .null]))] ++ (va_pl LL (lvE ge gf gm gw gt) ++ (va_pl LI0 (itE iv0) ++ (va_pl L (trE ke vl lf rt pa co))))) (fun u : List Nat × (Nat → Int) => some (.ref (lv0))) (fun u : List Nat × (Nat → Int) => ∀ y, y ∈ LI0 → y ∈ u.1 ∧ u.2 y = iv0 y) (fun u : List Nat × (Nat → Int) => ([(a, .inr (5, [y1, y2q, y3, .ref (qm), y4, y5, .int (zI (lst)), y6])), (qm, .inr (13, [.null, .null, .null, va_rf (root), .int (zI (sz)), .int (zI (mc)), .null, .null, .null]))] ++ (va_pl LL (lvE ge gf gm gw gt) ++ (va_pl u.1 (itE u.2) ++ (va_pl L (trE ke vl lf rt pa co)))))) := by
  refine zH.of (by decide +kernel) rfl ?_
  intro pp ee ss mm args below meth cd Q A C hr hlk hQ hA hV hin H locs hP hD hS ls hl
  have hx := C.1.1
  have hb := C.1.2.1
  have hl : lv_has ls 4 [(0, .ref (a)), (1, .int (zI ((i0 : Nat) : Int)))] := hl
  have hi0 := (List.getElem?_eq_some_iff.mp hz0).1
  obtain ⟨x0, hx1⟩ : ∃ x0, L[0]? = some x0 := ⟨L[0]'(by omega), List.getElem?_eq_getElem (by omega)⟩
  have hx0 : L.head? = some x0 := by rw [List.head?_eq_getElem?]; exact hx1
  have mx0 : x0 ∈ L := List.mem_of_getElem? hx1
  have hr0 := hKr x0 mx0
  refine lv_iload_n hx hb dX5_at_0 rfl (lv_at hl 1 rfl) ?_
  refine z_iconst C dX5_at_1 ?_
  refine lv_aload_n hx hb dX5_at_2 rfl (lv_at hl 0 rfl) ?_
  refine z_get C hP 0 rfl rfl in_X5 3 (by decide) q418 rfl dX5_at_3 ?_
  refine z_cV (n := 0) (As := []) (rest := [.int (zI 0), .int (zI ((i0 : Nat) : Int))]) C hP (k_J4_size l D dA (qm) (root) (sz) (mc)) (lw_V q1411 q1360 q2386 q118 q1361) (by decide +kernel) rfl ⟨Nat.le_of_ble_eq_true rfl, Nat.le_of_ble_eq_true rfl⟩ hl.1 (hP.sub [1] rfl) 1 rfl rfl rfl (Nat.le_of_ble_eq_true rfl) dX5_at_6 (Nat.zero_le _) (Nat.zero_le _) ?_
  refine z_iconst C dX5_at_9 ?_
  refine z_isub C dX5_at_10 ?_
  refine z_cSN (n := 3) (As := [.int (zI ((i0 : Nat) : Int)), .int (zI 0), .int (zI ((sz) - 1))]) (rest := []) C (k_X0_isIn l D dA (((i0 : Nat) : Int)) (0) ((sz) - 1) (by first | with_reducible assumption | omega | with_reducible rfl) (by first | with_reducible assumption | omega | with_reducible rfl) (by first | with_reducible assumption | omega | with_reducible rfl)) (List.mem_of_getElem? (i := 4) rfl) q740 q108 q739 (by decide +kernel) rfl ⟨Nat.le_of_ble_eq_true rfl, Nat.le_of_ble_eq_true rfl⟩ hl.1 (hP.sub [] rfl) rfl (Nat.le_of_ble_eq_true rfl) dX5_at_11 (Nat.zero_le _) (Nat.zero_le _) ?_
  refine z_if_neB (tgt := 19) C dX5_at_14 (by decide) (fun c_14 => ?_) (fun c_14 => ?_)
  · have c_14 := of_decide_eq_true c_14
    refine lv_aload_n hx hb dX5_at_19 rfl (lv_at hl 0 rfl) ?_
    refine z_get C hP 0 rfl rfl in_X5 3 (by decide) q418 rfl dX5_at_20 ?_
    refine z_cV (n := 0) (As := []) (rest := []) C hP (k_J4_firstKey l D dA (x0) (qm) (root) (sz) (mc) (K) (L) (ke) (vl) (lf) (rt) (pa) (co) hq hx0) (lw_V q1363 q1364 q1365 q118 q1366) (by decide +kernel) rfl ⟨Nat.le_of_ble_eq_true rfl, Nat.le_of_ble_eq_true rfl⟩ hl.1 (P_part (X := ([(a, .inr (5, [y1, y2q, y3, .ref (qm), y4, y5, .int (zI (lst)), y6]))] ++ (va_pl LL (lvE ge gf gm gw gt) ++ (va_pl LI0 (itE iv0))))) (Y := ([(qm, .inr (13, [.null, .null, .null, va_rf (root), .int (zI (sz)), .int (zI (mc)), .null, .null, .null]))] ++ va_pl L (trE ke vl lf rt pa co))) (perm_ct (fun p9 => by simp only [List.countP_append, List.countP_cons, List.countP_nil, List.cons_append, List.nil_append, List.append_nil] <;> omega)) hP) 1 rfl rfl rfl (Nat.le_of_ble_eq_true rfl) dX5_at_23 (Nat.zero_le _) (Nat.zero_le _) ?_
    refine z_castE C ((zEw_it (LI := LI0) (iv := iv0) C hV hS hP (fun q hq => List.mem_append_right _ (List.mem_append_right _ (List.mem_append_left _ hq)))).2.icell (hKf0 x0 mx0)) q1374 dX5_at_26 ?_
    refine z_nV (n := 0) (As := []) (rest := []) C ((zEw_it (LI := LI0) (iv := iv0) C hV hS hP (fun q hq => List.mem_append_right _ (List.mem_append_right _ (List.mem_append_left _ hq)))).sub (fun q9 h9 => by rw [List.mem_singleton.mp h9]; exact (hKf0 x0 mx0)) (fun q9 h9 => absurd h9 List.not_mem_nil)) (k_J14_intValue l D dA en (ke x0) (K x0)) (lw_V q1375 q1261 q1262 q133 q1263) (by decide +kernel) rfl ⟨Nat.le_of_ble_eq_true rfl, Nat.le_of_ble_eq_true rfl⟩ hl.1 (hP.sub [] rfl) (((zEw_it (LI := LI0) (iv := iv0) C hV hS hP (fun q hq => List.mem_append_right _ (List.mem_append_right _ (List.mem_append_left _ hq))))).2.icell (hKf0 x0 mx0)) rfl (Nat.le_of_ble_eq_true rfl) dX5_at_29 (Nat.zero_le _) (Nat.zero_le _) ?_
    refine lv_istore_n (lv' := [(2, .int (zI ((K x0)))), (0, .ref (a)), (1, .int (zI ((i0 : Nat) : Int)))]) hx hb dX5_at_32 rfl hl (by decide) rfl (fun ls hl => ?_)
    refine z_iconst C dX5_at_33 ?_
    refine lv_istore_n (lv' := [(3, .int (zI 0)), (2, .int (zI ((K x0)))), (0, .ref (a)), (1, .int (zI ((i0 : Nat) : Int)))]) hx hb dX5_at_34 rfl hl (by decide) rfl (fun ls hl => ?_)
    have L35 : ∀ (N : Nat) (j y : Nat) (LI : List Nat) (iv : Nat → Int), (L[j]? = some y) → (j ≤ i0) → (∀ y, y ∈ L → (ke y, K y) ∈ (fzE en LI iv).1) → (∀ y, y ∈ LI0 → y ∈ LI ∧ iv y = iv0 y) → (i0 - j) < N → ∀ (H : Heap) (locs : List Loc), va_P D vwCl ([(a, .inr (5, [y1, y2q, y3, .ref (qm), y4, y5, .int (zI (lst)), y6])), (qm, .inr (13, [.null, .null, .null, va_rf (root), .int (zI (sz)), .int (zI (mc)), .null, .null, .null]))] ++ (va_pl LL (lvE ge gf gm gw gt) ++ (va_pl LI (itE iv) ++ (va_pl L (trE ke vl lf rt pa co))))) H → va_D A ([(a, .inr (5, [y1, y2q, y3, .ref (qm), y4, y5, .int (zI (lst)), y6])), (qm, .inr (13, [.null, .null, .null, va_rf (root), .int (zI (sz)), .int (zI (mc)), .null, .null, .null]))] ++ (va_pl LL (lvE ge gf gm gw gt) ++ (va_pl LI (itE iv) ++ (va_pl L (trE ke vl lf rt pa co))))) → va_S A ss.heap H locs → ∀ ls : Array Slot, lv_has ls 4 [(0, .ref (a)), (1, .int (zI ((i0 : Nat) : Int))), (2, .int (zI (K y))), (3, .int (zI ((j : Nat) : Int)))] → W pp l ee (zRmW 6 131 (L.length + 1) (L.length + 1)) ss mm args below meth cd H locs j j Q (F0 mm 35 ls []) := by
      intro N
      induction N with
      | zero => intro j y LI iv _ _ _ _ hm; exact absurd hm (Nat.not_lt_zero _)
      | succ N ih35 =>
        intro j y LI iv hj hji hKf hLI hmz35 H locs hP hD hS ls hl
        have my : y ∈ L := List.mem_of_getElem? hj
        have r9 := hKr y my
        refine lv_iload_n hx hb dX5_at_35 rfl (lv_at hl 3 rfl) ?_
        refine lv_iload_n hx hb dX5_at_36 rfl (lv_at hl 1 rfl) ?_
        refine z_icmp_ge (tgt := 64) C ⟨by omega, by omega⟩ ⟨by omega, by omega⟩ dX5_at_37 (by decide) (fun c_37 => ?_) (fun c_37 => ?_)
        · have e8 : j = i0 := by omega
          have ey : y = z0 := by rw [e8, hz0] at hj; exact (Option.some.inj hj).symm
          refine lv_aload_n hx hb dX5_at_64 rfl (lv_at hl 0 rfl) ?_
          refine z_get C hP 0 rfl rfl in_X5 3 (by decide) q418 rfl dX5_at_65 ?_
          refine lv_iload_n hx hb dX5_at_68 rfl (lv_at hl 2 rfl) ?_
          refine z_box (X := ([(a, .inr (5, [y1, y2q, y3, .ref (qm), y4, y5, .int (zI (lst)), y6])), (qm, .inr (13, [.null, .null, .null, va_rf (root), .int (zI (sz)), .int (zI (mc)), .null, .null, .null]))] ++ (va_pl LL (lvE ge gf gm gw gt) ++ (va_pl L (trE ke vl lf rt pa co))))) (LI := LI) (iv := iv) (v := K y) (rest := [.ref (qm)]) C hV hP hD hS hA (perm_ct (fun p9 => by simp only [List.countP_append, List.countP_cons, List.countP_nil, List.cons_append, List.nil_append, List.append_nil] <;> omega)) (by omega) (lw_S q1022 q1023 q133 q1024) ⟨Nat.le_of_ble_eq_true rfl, Nat.le_of_ble_eq_true rfl⟩ hl.1 (Nat.le_of_ble_eq_true rfl) dX5_at_69 (by dsimp only; omega) (by dsimp only; omega) (fun k9_1 LI_1 iv_1 H locs bm_1 bk_1 hP hD hS => ?_)
          have hP : va_P D vwCl ([(a, .inr (5, [y1, y2q, y3, .ref (qm), y4, y5, .int (zI (lst)), y6])), (qm, .inr (13, [.null, .null, .null, va_rf (root), .int (zI (sz)), .int (zI (mc)), .null, .null, .null]))] ++ (va_pl LL (lvE ge gf gm gw gt) ++ (va_pl LI_1 (itE iv_1) ++ (va_pl L (trE ke vl lf rt pa co))))) H := P_perm (w1 := (([(a, .inr (5, [y1, y2q, y3, .ref (qm), y4, y5, .int (zI (lst)), y6])), (qm, .inr (13, [.null, .null, .null, va_rf (root), .int (zI (sz)), .int (zI (mc)), .null, .null, .null]))] ++ (va_pl LL (lvE ge gf gm gw gt) ++ (va_pl L (trE ke vl lf rt pa co)))) ++ va_pl LI_1 (itE iv_1))) (perm_ct (fun p9 => by simp only [List.countP_append, List.countP_cons, List.countP_nil, List.cons_append, List.nil_append, List.append_nil] <;> omega)) hP
          have hD : va_D A ([(a, .inr (5, [y1, y2q, y3, .ref (qm), y4, y5, .int (zI (lst)), y6])), (qm, .inr (13, [.null, .null, .null, va_rf (root), .int (zI (sz)), .int (zI (mc)), .null, .null, .null]))] ++ (va_pl LL (lvE ge gf gm gw gt) ++ (va_pl LI_1 (itE iv_1) ++ (va_pl L (trE ke vl lf rt pa co))))) := D_perm (w1 := (([(a, .inr (5, [y1, y2q, y3, .ref (qm), y4, y5, .int (zI (lst)), y6])), (qm, .inr (13, [.null, .null, .null, va_rf (root), .int (zI (sz)), .int (zI (mc)), .null, .null, .null]))] ++ (va_pl LL (lvE ge gf gm gw gt) ++ (va_pl L (trE ke vl lf rt pa co)))) ++ va_pl LI_1 (itE iv_1))) (perm_ct (fun p9 => by simp only [List.countP_append, List.countP_cons, List.countP_nil, List.cons_append, List.nil_append, List.append_nil] <;> omega)) hD
          refine z_nV (n := 1) (As := [.ref (k9_1)]) (rest := []) C (zEw_it (LI := LI_1) (iv := iv_1) C hV hS hP (fun q hq => List.mem_append_right _ (List.mem_append_right _ (List.mem_append_left _ hq)))) (k_J4_get l D dA en ((fzE en LI_1 iv_1)) (k9_1) ((K y)) ((some z0)) (qm) (root) (sz) (mc) (K) (L) (ke) (vl) (lf) (rt) (pa) (co) hq r9 bm_1 (fun q hq => fzE_mono bk_1 (hKf q hq)) hKr (by rw [ey]; exact get_at hq.2.2.1 hz0)) (lw_V q1428 q1429 q1430 q118 q1431) (by decide +kernel) rfl ⟨Nat.le_of_ble_eq_true rfl, Nat.le_of_ble_eq_true rfl⟩ hl.1 (P_part (X := ([(a, .inr (5, [y1, y2q, y3, .ref (qm), y4, y5, .int (zI (lst)), y6]))] ++ (va_pl LL (lvE ge gf gm gw gt) ++ (va_pl LI_1 (itE iv_1))))) (Y := ([(qm, .inr (13, [.null, .null, .null, va_rf (root), .int (zI (sz)), .int (zI (mc)), .null, .null, .null]))] ++ va_pl L (trE ke vl lf rt pa co))) (perm_ct (fun p9 => by simp only [List.countP_append, List.countP_cons, List.countP_nil, List.cons_append, List.nil_append, List.append_nil] <;> omega)) hP) (va_recv C.2.1 hP (q0 := 1) rfl rfl) rfl (Nat.le_of_ble_eq_true rfl) dX5_at_72 (by dsimp only; omega) (by dsimp only; omega) ?_
          rw [show (some z0 : Option Nat).bind vl = some lv0 from hvl]
          refine z_castE C (va_recv C.2.1 (P_mem (c9 := (lv0, (lvE ge gf gm gw gt) lv0)) hP (List.mem_append_right _ (List.mem_append_left _ (List.mem_map.mpr ⟨lv0, hlv, rfl⟩)))) (q0 := 0) (ci := 10) rfl rfl) q380 dX5_at_75 ?_
          exact z_aretG C hlk hr (Or.inl ⟨_, rfl⟩) hQ (Or.inr ⟨_, rfl⟩) ⟨LI_1, iv_1⟩ rfl (fun q hq => ⟨(bk_1 q (hLI q hq).1).1, ((bk_1 q (hLI q hq).1).2).trans (hLI q hq).2⟩) hP hD hS (by dsimp only; omega) (by dsimp only; omega) dX5_at_78
        · have lt9 : j < i0 := by omega
          obtain ⟨y2, hy2⟩ : ∃ y2, L[j + 1]? = some y2 := ⟨L[j + 1]'(by omega), List.getElem?_eq_getElem (by omega)⟩
          have nx9 : nxk K (K y) L = some y2 := (nxk_at hq.2.2.1 hj).trans hy2
          have my2 : y2 ∈ L := List.mem_of_getElem? hy2
          have r8 := hKr y2 my2
          refine lv_aload_n hx hb dX5_at_40 rfl (lv_at hl 0 rfl) ?_
          refine z_get C hP 0 rfl rfl in_X5 3 (by decide) q418 rfl dX5_at_41 ?_
          refine lv_iload_n hx hb dX5_at_44 rfl (lv_at hl 2 rfl) ?_
          refine z_box (X := ([(a, .inr (5, [y1, y2q, y3, .ref (qm), y4, y5, .int (zI (lst)), y6])), (qm, .inr (13, [.null, .null, .null, va_rf (root), .int (zI (sz)), .int (zI (mc)), .null, .null, .null]))] ++ (va_pl LL (lvE ge gf gm gw gt) ++ (va_pl L (trE ke vl lf rt pa co))))) (LI := LI) (iv := iv) (v := K y) (rest := [.ref (qm)]) C hV hP hD hS hA (perm_ct (fun p9 => by simp only [List.countP_append, List.countP_cons, List.countP_nil, List.cons_append, List.nil_append, List.append_nil] <;> omega)) (by omega) (lw_S q1022 q1023 q133 q1024) ⟨Nat.le_of_ble_eq_true rfl, Nat.le_of_ble_eq_true rfl⟩ hl.1 (Nat.le_of_ble_eq_true rfl) dX5_at_45 (by dsimp only; omega) (by dsimp only; omega) (fun k9_2 LI_2 iv_2 H locs bm_2 bk_2 hP hD hS => ?_)
          have hP : va_P D vwCl ([(a, .inr (5, [y1, y2q, y3, .ref (qm), y4, y5, .int (zI (lst)), y6])), (qm, .inr (13, [.null, .null, .null, va_rf (root), .int (zI (sz)), .int (zI (mc)), .null, .null, .null]))] ++ (va_pl LL (lvE ge gf gm gw gt) ++ (va_pl LI_2 (itE iv_2) ++ (va_pl L (trE ke vl lf rt pa co))))) H := P_perm (w1 := (([(a, .inr (5, [y1, y2q, y3, .ref (qm), y4, y5, .int (zI (lst)), y6])), (qm, .inr (13, [.null, .null, .null, va_rf (root), .int (zI (sz)), .int (zI (mc)), .null, .null, .null]))] ++ (va_pl LL (lvE ge gf gm gw gt) ++ (va_pl L (trE ke vl lf rt pa co)))) ++ va_pl LI_2 (itE iv_2))) (perm_ct (fun p9 => by simp only [List.countP_append, List.countP_cons, List.countP_nil, List.cons_append, List.nil_append, List.append_nil] <;> omega)) hP
          have hD : va_D A ([(a, .inr (5, [y1, y2q, y3, .ref (qm), y4, y5, .int (zI (lst)), y6])), (qm, .inr (13, [.null, .null, .null, va_rf (root), .int (zI (sz)), .int (zI (mc)), .null, .null, .null]))] ++ (va_pl LL (lvE ge gf gm gw gt) ++ (va_pl LI_2 (itE iv_2) ++ (va_pl L (trE ke vl lf rt pa co))))) := D_perm (w1 := (([(a, .inr (5, [y1, y2q, y3, .ref (qm), y4, y5, .int (zI (lst)), y6])), (qm, .inr (13, [.null, .null, .null, va_rf (root), .int (zI (sz)), .int (zI (mc)), .null, .null, .null]))] ++ (va_pl LL (lvE ge gf gm gw gt) ++ (va_pl L (trE ke vl lf rt pa co)))) ++ va_pl LI_2 (itE iv_2))) (perm_ct (fun p9 => by simp only [List.countP_append, List.countP_cons, List.countP_nil, List.cons_append, List.nil_append, List.append_nil] <;> omega)) hD
          refine z_nV (n := 1) (As := [.ref (k9_2)]) (rest := []) C (zEw_it (LI := LI_2) (iv := iv_2) C hV hS hP (fun q hq => List.mem_append_right _ (List.mem_append_right _ (List.mem_append_left _ hq)))) (k_J4_higherKey l D dA en ((fzE en LI_2 iv_2)) (k9_2) ((K y)) (qm) (root) (sz) (mc) (K) (L) (ke) (vl) (lf) (rt) (pa) (co) hq r9 bm_2 (fun q hq => fzE_mono bk_2 (hKf q hq)) hKr) (lw_V q1417 q1418 q1419 q118 q1420) (by decide +kernel) rfl ⟨Nat.le_of_ble_eq_true rfl, Nat.le_of_ble_eq_true rfl⟩ hl.1 (P_part (X := ([(a, .inr (5, [y1, y2q, y3, .ref (qm), y4, y5, .int (zI (lst)), y6]))] ++ (va_pl LL (lvE ge gf gm gw gt) ++ (va_pl LI_2 (itE iv_2))))) (Y := ([(qm, .inr (13, [.null, .null, .null, va_rf (root), .int (zI (sz)), .int (zI (mc)), .null, .null, .null]))] ++ va_pl L (trE ke vl lf rt pa co))) (perm_ct (fun p9 => by simp only [List.countP_append, List.countP_cons, List.countP_nil, List.cons_append, List.nil_append, List.append_nil] <;> omega)) hP) (va_recv C.2.1 hP (q0 := 1) rfl rfl) rfl (Nat.le_of_ble_eq_true rfl) dX5_at_48 (by dsimp only; omega) (by dsimp only; omega) ?_
          rw [show (nxk K (K y) L).map ke = some (ke y2) by rw [nx9]; rfl]
          refine z_castE C ((zEw_it (LI := LI_2) (iv := iv_2) C hV hS hP (fun q hq => List.mem_append_right _ (List.mem_append_right _ (List.mem_append_left _ hq)))).2.icell (fzE_mono bk_2 (hKf y2 my2))) q1374 dX5_at_51 ?_
          refine z_nV (n := 0) (As := []) (rest := []) C ((zEw_it (LI := LI_2) (iv := iv_2) C hV hS hP (fun q hq => List.mem_append_right _ (List.mem_append_right _ (List.mem_append_left _ hq)))).sub (fun q9 h9 => by rw [List.mem_singleton.mp h9]; exact (fzE_mono bk_2 (hKf y2 my2))) (fun q9 h9 => absurd h9 List.not_mem_nil)) (k_J14_intValue l D dA en (ke y2) (K y2)) (lw_V q1375 q1261 q1262 q133 q1263) (by decide +kernel) rfl ⟨Nat.le_of_ble_eq_true rfl, Nat.le_of_ble_eq_true rfl⟩ hl.1 (hP.sub [] rfl) (((zEw_it (LI := LI_2) (iv := iv_2) C hV hS hP (fun q hq => List.mem_append_right _ (List.mem_append_right _ (List.mem_append_left _ hq))))).2.icell (fzE_mono bk_2 (hKf y2 my2))) rfl (Nat.le_of_ble_eq_true rfl) dX5_at_54 (by dsimp only; omega) (by dsimp only; omega) ?_
          refine lv_istore_n (lv' := [(2, .int (zI ((K y2)))), (0, .ref (a)), (1, .int (zI ((i0 : Nat) : Int))), (3, .int (zI ((j : Nat) : Int)))]) hx hb dX5_at_57 rfl hl (by decide) rfl (fun ls hl => ?_)
          refine lv_iinc (v := zI ((j + 1 : Nat) : Int)) (lv' := [(3, .int (zI ((j + 1 : Nat) : Int))), (2, .int (zI ((K y2)))), (0, .ref (a)), (1, .int (zI ((i0 : Nat) : Int)))]) hx hb dX5_at_58 hl (k := 3) rfl (zI_inc (by omega)) (by decide) rfl (fun ls hl => ?_)
          refine lv_goto (tgt := 35) hx hb dX5_at_61 (by decide) ?_
          refine W.widen (k := (j + 1)) (n := (j + 1)) (by omega) (by omega) ?_
          exact ih35 (j + 1) (y2) (LI_2) (iv_2) hy2 (by omega) (fun q hq => fzE_mono bk_2 (hKf q hq)) (fun q hq => ⟨(bk_2 q (hLI q hq).1).1, ((bk_2 q (hLI q hq).1).2).trans (hLI q hq).2⟩) (by omega) H locs hP hD hS ls (lv_sub hl [2, 3, 1, 0] rfl)
    refine W.widen (k := 0) (n := 0) (by omega) (by omega) ?_
    exact L35 ((i0 - 0) + 1) (0) (x0) (LI0) (iv0) hx1 (by omega) hKf0 (fun y hy => ⟨hy, rfl⟩) (by omega) H locs hP hD hS ls (lv_sub hl [2, 3, 1, 0] rfl)
  · have c_14 := of_decide_eq_false c_14; (simp at c_14; omega)
