/-! PriorityQueue of Spots: offer (printed by tools/s_spq2.py) -/
set_option maxHeartbeats 600000 in
set_option maxRecDepth 100000 in
theorem k_J21_siftUp_s (l : Launch) (D : va_G) (dA : Nat → ClassId) (B : Nat) (en : Nat → Nat → Nat) (a : Nat) (mc : Int) (f : Nat → Option Nat) (e cap n x : Nat) (gg : Nat → Nat) (S9 : Nat → Prop) (LS : List Nat) (st : Nat → Nat) (hi : Nat → Int) (hcap : n < cap ∧ cap ≤ 100000) (hV9 : ∀ y, (y = x ∨ S9 y) → y ∈ LS ∧ st y < 65536 ∧ -100000 ≤ hi y ∧ hi y ≤ 100000) (hf : pqF f gg n) (ho9 : hpO (spK st hi) gg n) (hs9 : hpS gg n S9) (hx9 : ¬ S9 x) : zH (S := (Nat → Option Nat) × (Nat → Nat)) l yJ21_siftUp cJ21_siftUp 3 (none) (zRmW 3 67 0 0) B en ([], []) D dA [.ref (a), .int (zI ((n : Nat) : Int)), .ref (x)] ([(a, .inr (16, [.ref (e), .int (zI ((n : Nat) : Int)), .null, .int (zI (mc))])), (e, .inl (dA 7, cap, .inr (.inr (.inr (.inr (f))))))] ++ va_pl LS (spE st hi)) (fun u : (Nat → Option Nat) × (Nat → Nat) => none) (fun u : (Nat → Option Nat) × (Nat → Nat) => pqF u.1 u.2 (n + 1) ∧ hpO (spK st hi) u.2 (n + 1) ∧ hpS u.2 (n + 1) (fun y => y = x ∨ S9 y) ∧ ∀ i, n + 1 ≤ i → u.1 i = f i) (fun u : (Nat → Option Nat) × (Nat → Nat) => ([(a, .inr (16, [.ref (e), .int (zI ((n : Nat) : Int)), .null, .int (zI (mc))])), (e, .inl (dA 7, cap, .inr (.inr (.inr (.inr (u.1))))))] ++ va_pl LS (spE st hi))) := by
  refine zH.of (by decide +kernel) rfl ?_
  intro pp ee ss mm args below meth cd Q A C hr hlk hQ hA hV hin H locs hP hD hS ls hl
  have hx := C.1.1
  have hb := C.1.2.1
  have hl : lv_has ls 3 [(0, .ref (a)), (1, .int (zI ((n : Nat) : Int))), (2, .ref (x))] := hl
  refine lv_aload_n hx hb dJ21_siftUp_0 rfl (lv_at hl 0 rfl) ?_
  refine z_get C hP 0 rfl rfl in_J21 2 (by decide) q1676 rfl dJ21_siftUp_1 ?_
  refine lv_ifnullN (tgt := 23) hx hb dJ21_siftUp_4 (by decide) ?_
  refine lv_iload_n hx hb dJ21_siftUp_23 rfl (lv_at hl 1 rfl) ?_
  refine lv_aload_n hx hb dJ21_siftUp_24 rfl (lv_at hl 2 rfl) ?_
  refine lv_aload_n hx hb dJ21_siftUp_25 rfl (lv_at hl 0 rfl) ?_
  refine z_get C hP 0 rfl rfl in_J21 0 (by decide) q1674 rfl dJ21_siftUp_26 ?_
  refine z_hSp (X := [(a, .inr (16, [.ref (e), .int (zI ((n : Nat) : Int)), .null, .int (zI (mc))]))]) (Y := ([(e, .inl (dA 7, cap, .inr (.inr (.inr (.inr (f))))))] ++ va_pl LS (spE st hi))) (n := 3) (As := [.int (zI ((n : Nat) : Int)), .ref (x), .ref (e)]) (rest := []) C hV hP hD hS hA (k_J21_siftUpComparable l D dA B en (n) (f) (e) (cap) (n + 1) (x) ((va_up gg n x)) ((fun y => y = x ∨ S9 y)) (LS) (st) (hi) (by first | with_reducible assumption | omega | with_reducible rfl) hV9 (by first | with_reducible assumption | omega | with_reducible rfl) va_upe (pqF_push hf) (hp_up0 x ho9) (hpS_push hs9 hx9)) (hV.fz hS) (lw_S q1733 q1734 q146 q1735) (by decide +kernel) rfl ⟨Nat.le_of_ble_eq_true rfl, Nat.le_of_ble_eq_true rfl⟩ hl.1 rfl (Nat.le_of_ble_eq_true rfl) dJ21_siftUp_29 (by decide) (by decide) (fun u_29 H locs hp_29 hP hD hS => ?_)
  obtain ⟨f1_1, g1_2⟩ := u_29
  have hP : va_P D vwCl ([(a, .inr (16, [.ref (e), .int (zI ((n : Nat) : Int)), .null, .int (zI (mc))])), (e, .inl (dA 7, cap, .inr (.inr (.inr (.inr (f1_1))))))] ++ va_pl LS (spE st hi)) H := hP
  have hD : va_D A ([(a, .inr (16, [.ref (e), .int (zI ((n : Nat) : Int)), .null, .int (zI (mc))])), (e, .inl (dA 7, cap, .inr (.inr (.inr (.inr (f1_1))))))] ++ va_pl LS (spE st hi)) := hD
  have hp_29 : pqF f1_1 g1_2 (n + 1) ∧ hpO (spK st hi) g1_2 (n + 1) ∧ hpS g1_2 (n + 1) ((fun y => y = x ∨ S9 y)) ∧ ∀ i, (n + 1) ≤ i → f1_1 i = f i := hp_29
  refine W.widen (k := 0) (n := 0) (Nat.le_of_ble_eq_true rfl) (Nat.le_of_ble_eq_true rfl) ?_
  exact z_vretG C hlk hr hQ ⟨f1_1, g1_2⟩ rfl hp_29 hP hD hS (Nat.le_of_ble_eq_true rfl) (Nat.le_of_ble_eq_true rfl) dJ21_siftUp_32

set_option maxHeartbeats 600000 in
set_option maxRecDepth 100000 in
theorem k_J21_offer_s (l : Launch) (D : va_G) (dA : Nat → ClassId) (B : Nat) (en : Nat → Nat → Nat) (a : Nat) (mc : Int) (f : Nat → Option Nat) (e cap n x : Nat) (gg : Nat → Nat) (S9 : Nat → Prop) (LS : List Nat) (st : Nat → Nat) (hi : Nat → Int) (hcap : n < cap ∧ cap ≤ 100000) (hV9 : ∀ y, (y = x ∨ S9 y) → y ∈ LS ∧ st y < 65536 ∧ -100000 ≤ hi y ∧ hi y ≤ 100000) (hf : pqF f gg n) (ho9 : hpO (spK st hi) gg n) (hs9 : hpS gg n S9) (hx9 : ¬ S9 x) : zH (S := (Nat → Option Nat) × (Nat → Nat)) l yJ21_offer cJ21_offer 3 (some .boolean) (zRmW 4 89 0 0) B en ([], []) D dA [.ref (a), .ref (x)] ([(a, .inr (16, [.ref (e), .int (zI ((n : Nat) : Int)), .null, .int (zI (mc))])), (e, .inl (dA 7, cap, .inr (.inr (.inr (.inr (f))))))] ++ va_pl LS (spE st hi)) (fun u : (Nat → Option Nat) × (Nat → Nat) => some (.int (zB (true)))) (fun u : (Nat → Option Nat) × (Nat → Nat) => pqF u.1 u.2 (n + 1) ∧ hpO (spK st hi) u.2 (n + 1) ∧ hpS u.2 (n + 1) (fun y => y = x ∨ S9 y) ∧ ∀ i, n + 1 ≤ i → u.1 i = f i) (fun u : (Nat → Option Nat) × (Nat → Nat) => ([(a, .inr (16, [.ref (e), .int (zI ((n + 1 : Nat) : Int)), .null, .int (zI (mc + 1))])), (e, .inl (dA 7, cap, .inr (.inr (.inr (.inr (u.1))))))] ++ va_pl LS (spE st hi))) := by
  refine zH.of (by decide +kernel) rfl ?_
  intro pp ee ss mm args below meth cd Q A C hr hlk hQ hA hV hin H locs hP hD hS ls hl
  have hx := C.1.1
  have hb := C.1.2.1
  have hl : lv_has ls 3 [(0, .ref (a)), (1, .ref (x))] := hl
  refine lv_aload_n hx hb dJ21_offer_0 rfl (lv_at hl 1 rfl) ?_
  refine lv_ifnonnull (tgt := 12) hx hb dJ21_offer_1 (by decide) ?_
  refine lv_aload_n hx hb dJ21_offer_12 rfl (lv_at hl 0 rfl) ?_
  refine lv_dup hx hb dJ21_offer_13 rfl ?_
  refine z_get C hP 0 rfl rfl in_J21 3 (by decide) q1677 rfl dJ21_offer_14 ?_
  refine z_iconst C dJ21_offer_17 ?_
  refine z_iadd C dJ21_offer_18 ?_
  refine z_put C hP hD hS 0 rfl rfl in_J21 tyJ21_ok nmJ21 3 (by decide) q1677 rfl (v := .int (zI ((mc) + 1))) rfl rfl (Nat.le_of_ble_eq_true rfl) (ws' := ([(a, .inr (16, [.ref (e), .int (zI ((n : Nat) : Int)), .null, .int (zI ((mc) + 1))])), (e, .inl (dA 7, cap, .inr (.inr (.inr (.inr (f))))))] ++ va_pl LS (spE st hi))) rfl dJ21_offer_19 (fun H locs hP hD hS => ?_)
  refine lv_aload_n hx hb dJ21_offer_22 rfl (lv_at hl 0 rfl) ?_
  refine z_get C hP 0 rfl rfl in_J21 1 (by decide) q1675 rfl dJ21_offer_23 ?_
  refine lv_istore_n (lv' := [(2, .int (zI ((n : Nat) : Int))), (0, .ref (a)), (1, .ref (x))]) hx hb dJ21_offer_26 rfl hl (by decide) rfl (fun ls hl => ?_)
  refine lv_iload_n hx hb dJ21_offer_27 rfl (lv_at hl 0 rfl) ?_
  refine lv_aload_n hx hb dJ21_offer_28 rfl (lv_at hl 1 rfl) ?_
  refine z_get C hP 0 rfl rfl in_J21 0 (by decide) q1674 rfl dJ21_offer_29 ?_
  refine z_alen C hP 1 7 rfl rfl rfl dJ21_offer_32 ?_
  refine z_icmp_lt (tgt := 43) C ⟨by omega, by omega⟩ ⟨by omega, by omega⟩ dJ21_offer_33 (by decide) (fun c_33 => ?_) (fun c_33 => ?_)
  · refine lv_aload_n hx hb dJ21_offer_43 rfl (lv_at hl 1 rfl) ?_
    refine lv_iload_n hx hb dJ21_offer_44 rfl (lv_at hl 0 rfl) ?_
    refine lv_aload_n hx hb dJ21_offer_45 rfl (lv_at hl 2 rfl) ?_
    refine z_hVw (n := 2) (As := [.int (zI ((n : Nat) : Int)), .ref (x)]) (rest := []) C hV hP hD hS hA (k_J21_siftUp_s l D dA B en (a) ((mc) + 1) (f) (e) (cap) (n) (x) (gg) (S9) (LS) (st) (hi) (by first | with_reducible assumption | omega | with_reducible rfl) (by first | with_reducible assumption | omega | with_reducible rfl) (by first | with_reducible assumption | omega | with_reducible rfl) (by first | with_reducible assumption | omega | with_reducible rfl) (by first | with_reducible assumption | omega | with_reducible rfl) (by first | with_reducible assumption | omega | with_reducible rfl)) (hV.fz hS) (lw_V q1724 q1726 qs56 q146 q1727) (by decide +kernel) rfl ⟨Nat.le_of_ble_eq_true rfl, Nat.le_of_ble_eq_true rfl⟩ hl.1 0 rfl rfl rfl (Nat.le_of_ble_eq_true rfl) dJ21_offer_46 (by decide) (by decide) (fun u_46 H locs hp_46 hP hD hS => ?_)
    obtain ⟨f1_1, g1_2⟩ := u_46
    have hP : va_P D vwCl ([(a, .inr (16, [.ref (e), .int (zI ((n : Nat) : Int)), .null, .int (zI (((mc) + 1)))])), (e, .inl (dA 7, cap, .inr (.inr (.inr (.inr (f1_1))))))] ++ va_pl LS (spE st hi)) H := hP
    have hD : va_D A ([(a, .inr (16, [.ref (e), .int (zI ((n : Nat) : Int)), .null, .int (zI (((mc) + 1)))])), (e, .inl (dA 7, cap, .inr (.inr (.inr (.inr (f1_1))))))] ++ va_pl LS (spE st hi)) := hD
    have hp_46 : pqF f1_1 g1_2 (n + 1) ∧ hpO (spK st hi) g1_2 (n + 1) ∧ hpS g1_2 (n + 1) (fun y => y = x ∨ S9 y) ∧ ∀ i, n + 1 ≤ i → f1_1 i = f i := hp_46
    refine W.widen (k := 0) (n := 0) (Nat.le_of_ble_eq_true rfl) (Nat.le_of_ble_eq_true rfl) ?_
    refine lv_aload_n hx hb dJ21_offer_49 rfl (lv_at hl 1 rfl) ?_
    refine lv_iload_n hx hb dJ21_offer_50 rfl (lv_at hl 0 rfl) ?_
    refine z_iconst C dJ21_offer_51 ?_
    refine z_iaddN C (n) (1) rfl rfl dJ21_offer_52 ?_
    refine z_put C hP hD hS 0 rfl rfl in_J21 tyJ21_ok nmJ21 1 (by decide) q1675 rfl (v := .int (zI (((n + 1) : Nat) : Int))) rfl rfl (Nat.le_of_ble_eq_true rfl) (ws' := ([(a, .inr (16, [.ref (e), .int (zI (((n + 1) : Nat) : Int)), .null, .int (zI (((mc) + 1)))])), (e, .inl (dA 7, cap, .inr (.inr (.inr (.inr (f1_1))))))] ++ va_pl LS (spE st hi))) rfl dJ21_offer_53 (fun H locs hP hD hS => ?_)
    refine z_iconst C dJ21_offer_56 ?_
    exact z_zretG (a := true) C hlk hr hQ ⟨f1_1, g1_2⟩ rfl hp_46 hP hD hS (Nat.le_of_ble_eq_true rfl) (Nat.le_of_ble_eq_true rfl) dJ21_offer_57
  · omega

set_option maxHeartbeats 600000 in
set_option maxRecDepth 100000 in
theorem k_J21_add_s (l : Launch) (D : va_G) (dA : Nat → ClassId) (B : Nat) (en : Nat → Nat → Nat) (a : Nat) (mc : Int) (f : Nat → Option Nat) (e cap n x : Nat) (gg : Nat → Nat) (S9 : Nat → Prop) (LS : List Nat) (st : Nat → Nat) (hi : Nat → Int) (hcap : n < cap ∧ cap ≤ 100000) (hV9 : ∀ y, (y = x ∨ S9 y) → y ∈ LS ∧ st y < 65536 ∧ -100000 ≤ hi y ∧ hi y ≤ 100000) (hf : pqF f gg n) (ho9 : hpO (spK st hi) gg n) (hs9 : hpS gg n S9) (hx9 : ¬ S9 x) : zH (S := (Nat → Option Nat) × (Nat → Nat)) l yJ21_add cJ21_add 2 (some .boolean) (zRmW 5 111 0 0) B en ([], []) D dA [.ref (a), .ref (x)] ([(a, .inr (16, [.ref (e), .int (zI ((n : Nat) : Int)), .null, .int (zI (mc))])), (e, .inl (dA 7, cap, .inr (.inr (.inr (.inr (f))))))] ++ va_pl LS (spE st hi)) (fun u : (Nat → Option Nat) × (Nat → Nat) => some (.int (zB (true)))) (fun u : (Nat → Option Nat) × (Nat → Nat) => pqF u.1 u.2 (n + 1) ∧ hpO (spK st hi) u.2 (n + 1) ∧ hpS u.2 (n + 1) (fun y => y = x ∨ S9 y) ∧ ∀ i, n + 1 ≤ i → u.1 i = f i) (fun u : (Nat → Option Nat) × (Nat → Nat) => ([(a, .inr (16, [.ref (e), .int (zI ((n + 1 : Nat) : Int)), .null, .int (zI (mc + 1))])), (e, .inl (dA 7, cap, .inr (.inr (.inr (.inr (u.1))))))] ++ va_pl LS (spE st hi))) := by
  refine zH.of (by decide +kernel) rfl ?_
  intro pp ee ss mm args below meth cd Q A C hr hlk hQ hA hV hin H locs hP hD hS ls hl
  have hx := C.1.1
  have hb := C.1.2.1
  have hl : lv_has ls 2 [(0, .ref (a)), (1, .ref (x))] := hl
  refine lv_aload_n hx hb dJ21_add_0 rfl (lv_at hl 0 rfl) ?_
  refine lv_aload_n hx hb dJ21_add_1 rfl (lv_at hl 1 rfl) ?_
  refine z_hVw (n := 1) (As := [.ref (x)]) (rest := []) C hV hP hD hS hA (k_J21_offer_s l D dA B en (a) (mc) (f) (e) (cap) (n) (x) (gg) (S9) (LS) (st) (hi) (by first | with_reducible assumption | omega | with_reducible rfl) (by first | with_reducible assumption | omega | with_reducible rfl) (by first | with_reducible assumption | omega | with_reducible rfl) (by first | with_reducible assumption | omega | with_reducible rfl) (by first | with_reducible assumption | omega | with_reducible rfl) (by first | with_reducible assumption | omega | with_reducible rfl)) (hV.fz hS) (lw_V q1707 q1708 q1709 q146 q1710) (by decide +kernel) rfl ⟨Nat.le_of_ble_eq_true rfl, Nat.le_of_ble_eq_true rfl⟩ hl.1 0 rfl rfl rfl (Nat.le_of_ble_eq_true rfl) dJ21_add_2 (by decide) (by decide) (fun u_2 H locs hp_2 hP hD hS => ?_)
  obtain ⟨f1_1, g1_2⟩ := u_2
  have hP : va_P D vwCl ([(a, .inr (16, [.ref (e), .int (zI ((n + 1 : Nat) : Int)), .null, .int (zI (mc + 1))])), (e, .inl (dA 7, cap, .inr (.inr (.inr (.inr (f1_1))))))] ++ va_pl LS (spE st hi)) H := hP
  have hD : va_D A ([(a, .inr (16, [.ref (e), .int (zI ((n + 1 : Nat) : Int)), .null, .int (zI (mc + 1))])), (e, .inl (dA 7, cap, .inr (.inr (.inr (.inr (f1_1))))))] ++ va_pl LS (spE st hi)) := hD
  have hp_2 : pqF f1_1 g1_2 (n + 1) ∧ hpO (spK st hi) g1_2 (n + 1) ∧ hpS g1_2 (n + 1) (fun y => y = x ∨ S9 y) ∧ ∀ i, n + 1 ≤ i → f1_1 i = f i := hp_2
  refine W.widen (k := 0) (n := 0) (Nat.le_of_ble_eq_true rfl) (Nat.le_of_ble_eq_true rfl) ?_
  exact z_zretG (a := true) C hlk hr hQ ⟨f1_1, g1_2⟩ rfl hp_2 hP hD hS (Nat.le_of_ble_eq_true rfl) (Nat.le_of_ble_eq_true rfl) dJ21_add_5

set_option maxHeartbeats 600000 in
set_option maxRecDepth 100000 in
theorem k_J21_poll_s (l : Launch) (D : va_G) (dA : Nat → ClassId) (B : Nat) (en : Nat → Nat → Nat) (a : Nat) (mc : Int) (f : Nat → Option Nat) (e cap m : Nat) (gg : Nat → Nat) (S9 : Nat → Prop) (LS : List Nat) (st : Nat → Nat) (hi : Nat → Int) (hcap : m + 1 ≤ cap ∧ cap ≤ 100000) (hV9 : ∀ y, S9 y → y ∈ LS ∧ st y < 65536 ∧ -100000 ≤ hi y ∧ hi y ≤ 100000) (hf : pqF f gg (m + 1)) (ho9 : hpO (spK st hi) gg (m + 1)) (hs9 : hpS gg (m + 1) S9) (hN9 : pqN f (m + 1)) : zH (S := (Nat → Option Nat) × (Nat → Nat)) l yJ21_poll cJ21_poll 6 (some (.object "java/lang/Object")) (zRmW 3 70 0 0) B en ([], []) D dA [.ref (a)] ([(a, .inr (16, [.ref (e), .int (zI ((m + 1 : Nat) : Int)), .null, .int (zI (mc))])), (e, .inl (dA 7, cap, .inr (.inr (.inr (.inr (f))))))] ++ va_pl LS (spE st hi)) (fun u : (Nat → Option Nat) × (Nat → Nat) => some (.ref (gg 0))) (fun u : (Nat → Option Nat) × (Nat → Nat) => pqF u.1 u.2 m ∧ hpO (spK st hi) u.2 m ∧ hpS u.2 m (fun y => S9 y ∧ y ≠ gg 0) ∧ pqN u.1 m ∧ ∀ y, S9 y → spK st hi (gg 0) ≤ spK st hi y) (fun u : (Nat → Option Nat) × (Nat → Nat) => ([(a, .inr (16, [.ref (e), .int (zI ((m : Nat) : Int)), .null, .int (zI (mc + 1))])), (e, .inl (dA 7, cap, .inr (.inr (.inr (.inr (u.1))))))] ++ va_pl LS (spE st hi))) := by
  refine zH.of (by decide +kernel) rfl ?_
  intro pp ee ss mm args below meth cd Q A C hr hlk hQ hA hV hin H locs hP hD hS ls hl
  have hx := C.1.1
  have hb := C.1.2.1
  have hl : lv_has ls 6 [(0, .ref (a))] := hl
  have mn9 : ∀ y, S9 y → spK st hi (gg 0) ≤ spK st hi y := pq_min (K := spK st hi) ho9 hs9
  refine lv_aload_n hx hb dJ21_poll_0 rfl (lv_at hl 0 rfl) ?_
  refine z_get C hP 0 rfl rfl in_J21 0 (by decide) q1674 rfl dJ21_poll_1 ?_
  refine lv_dup hx hb dJ21_poll_4 rfl ?_
  refine lv_astore_n (lv' := [(1, .ref (e)), (0, .ref (a))]) hx hb dJ21_poll_5 rfl hl (by decide) rfl (fun ls hl => ?_)
  refine z_iconst C dJ21_poll_6 ?_
  refine z_aaldW C hP 1 7 rfl rfl (0) rfl (by omega) (by first | decide | omega) dJ21_poll_7 ?_
  rw [hf 0 (by omega)]
  refine lv_dup hx hb dJ21_poll_8 rfl ?_
  refine lv_astore_n (lv' := [(2, .ref (gg 0)), (1, .ref (e)), (0, .ref (a))]) hx hb dJ21_poll_9 rfl hl (by decide) rfl (fun ls hl => ?_)
  refine lv_ifnull hx hb dJ21_poll_10 ?_
  refine lv_aload_n hx hb dJ21_poll_13 rfl (lv_at hl 2 rfl) ?_
  refine lv_dup hx hb dJ21_poll_14 rfl ?_
  refine z_get C hP 0 rfl rfl in_J21 3 (by decide) q1677 rfl dJ21_poll_15 ?_
  refine z_iconst C dJ21_poll_18 ?_
  refine z_iadd C dJ21_poll_19 ?_
  refine z_put C hP hD hS 0 rfl rfl in_J21 tyJ21_ok nmJ21 3 (by decide) q1677 rfl (v := .int (zI ((mc) + 1))) rfl rfl (Nat.le_of_ble_eq_true rfl) (ws' := ([(a, .inr (16, [.ref (e), .int (zI ((m + 1 : Nat) : Int)), .null, .int (zI ((mc) + 1))])), (e, .inl (dA 7, cap, .inr (.inr (.inr (.inr (f))))))] ++ va_pl LS (spE st hi))) rfl dJ21_poll_20 (fun H locs hP hD hS => ?_)
  refine lv_aload_n hx hb dJ21_poll_23 rfl (lv_at hl 1 rfl) ?_
  refine lv_aload_n hx hb dJ21_poll_24 rfl (lv_at hl 2 rfl) ?_
  refine lv_dup hx hb dJ21_poll_25 rfl ?_
  refine z_get C hP 0 rfl rfl in_J21 1 (by decide) q1675 rfl dJ21_poll_26 ?_
  refine z_iconst C dJ21_poll_29 ?_
  refine z_isubN C (m + 1) (1) rfl rfl (by omega) dJ21_poll_30 ?_
  refine lv_dup_x1 hx hb dJ21_poll_31 rfl rfl ?_
  refine z_put C hP hD hS 0 rfl rfl in_J21 tyJ21_ok nmJ21 1 (by decide) q1675 rfl (v := .int (zI ((m : Nat) : Int))) rfl rfl (Nat.le_of_ble_eq_true rfl) (ws' := ([(a, .inr (16, [.ref (e), .int (zI ((m : Nat) : Int)), .null, .int (zI ((mc) + 1))])), (e, .inl (dA 7, cap, .inr (.inr (.inr (.inr (f))))))] ++ va_pl LS (spE st hi))) rfl dJ21_poll_32 (fun H locs hP hD hS => ?_)
  refine lv_dup hx hb dJ21_poll_35 rfl ?_
  refine lv_istore_n (lv' := [(3, .int (zI ((m : Nat) : Int))), (2, .ref (gg 0)), (1, .ref (e)), (0, .ref (a))]) hx hb dJ21_poll_36 rfl hl (by decide) rfl (fun ls hl => ?_)
  refine z_aaldW C hP 1 7 rfl rfl (m) rfl (by omega) (by first | decide | omega) dJ21_poll_37 ?_
  rw [hf m (by omega)]
  refine lv_astore (lv' := [(4, .ref (gg m)), (3, .int (zI ((m : Nat) : Int))), (2, .ref (gg 0)), (1, .ref (e)), (0, .ref (a))]) hx hb dJ21_poll_38 hl (by decide) rfl (fun ls hl => ?_)
  refine lv_aload_n hx hb dJ21_poll_40 rfl (lv_at hl 3 rfl) ?_
  refine lv_iload_n hx hb dJ21_poll_41 rfl (lv_at hl 1 rfl) ?_
  refine lv_null C.1.1 C.1.2.1 dJ21_poll_42 ?_
  refine z_aastN C hP hD hS 1 7 rfl rfl (m) rfl (by omega) (by first | decide | omega) (ws' := ([(a, .inr (16, [.ref (e), .int (zI ((m : Nat) : Int)), .null, .int (zI ((mc) + 1))])), (e, .inl (dA 7, cap, .inr (.inr (.inr (.inr ((va_up f m none)))))))] ++ va_pl LS (spE st hi))) rfl dJ21_poll_43 (fun H locs hP hD hS => ?_)
  refine lv_iload_n hx hb dJ21_poll_44 rfl (lv_at hl 1 rfl) ?_
  refine z_if_le (tgt := 79) C ⟨by omega, by omega⟩ dJ21_poll_45 (by decide) (fun c_45 => ?_) (fun c_45 => ?_)
  · refine lv_aload_n hx hb dJ21_poll_79 rfl (lv_at hl 2 rfl) ?_
    exact z_aretG C hlk hr (Or.inl ⟨_, rfl⟩) hQ (Or.inr ⟨_, rfl⟩) ⟨(va_up f m none), (va_up gg 0 (gg m))⟩ rfl (by first | exact ⟨hp_63.1, hp_63.2.1, hp_63.2.2.1, (fun i hi => (hp_63.2.2.2 i hi).trans (pqN_pop hN9 i hi)), mn9⟩ | exact ⟨(fun i hi => by omega), (fun i _ hi => by omega), hpS_pop hs9, pqN_pop hN9, mn9⟩) hP hD hS (Nat.le_of_ble_eq_true rfl) (Nat.le_of_ble_eq_true rfl) dJ21_poll_80
  · refine lv_aload_n hx hb dJ21_poll_48 rfl (lv_at hl 4 rfl) ?_
    refine z_get C hP 0 rfl rfl in_J21 2 (by decide) q1676 rfl dJ21_poll_49 ?_
    refine lv_dup hx hb dJ21_poll_52 rfl ?_
    refine lv_astoreN (lv' := [(5, .null), (4, .ref (gg m)), (3, .int (zI ((m : Nat) : Int))), (2, .ref (gg 0)), (1, .ref (e)), (0, .ref (a))]) hx hb dJ21_poll_53 hl (by decide) rfl (fun ls hl => ?_)
    refine lv_ifnonnullN hx hb dJ21_poll_55 ?_
    refine z_iconst C dJ21_poll_58 ?_
    refine lv_aload hx hb dJ21_poll_59 (lv_at hl 1 rfl) ?_
    refine lv_aload_n hx hb dJ21_poll_61 rfl (lv_at hl 4 rfl) ?_
    refine lv_iload_n hx hb dJ21_poll_62 rfl (lv_at hl 2 rfl) ?_
    refine z_hSp (X := [(a, .inr (16, [.ref (e), .int (zI ((m : Nat) : Int)), .null, .int (zI ((mc) + 1))]))]) (Y := ([(e, .inl (dA 7, cap, .inr (.inr (.inr (.inr ((va_up f m none)))))))] ++ va_pl LS (spE st hi))) (n := 4) (As := [.int (zI 0), .ref (gg m), .ref (e), .int (zI ((m : Nat) : Int))]) (rest := []) C hV hP hD hS hA (k_J21_siftDownComparable l D dA B en (0) ((va_up f m none)) (e) (cap) (m) (gg m) ((va_up gg 0 (gg m))) ((fun y => S9 y ∧ y ≠ gg 0)) (LS) (st) (hi) (by first | with_reducible assumption | omega | with_reducible rfl) (fun y hy => hV9 y hy.1) (by first | with_reducible assumption | omega | with_reducible rfl) va_upe (pqF_pop hf) (hp_dn0 _ ho9) (hpS_pop hs9)) (hV.fz hS) (lw_S q1743 q1744 q146 q1745) (by decide +kernel) rfl ⟨Nat.le_of_ble_eq_true rfl, Nat.le_of_ble_eq_true rfl⟩ hl.1 rfl (Nat.le_of_ble_eq_true rfl) dJ21_poll_63 (by decide) (by decide) (fun u_63 H locs hp_63 hP hD hS => ?_)
    obtain ⟨f1_1, g1_2⟩ := u_63
    have hP : va_P D vwCl ([(a, .inr (16, [.ref (e), .int (zI ((m : Nat) : Int)), .null, .int (zI ((mc) + 1))])), (e, .inl (dA 7, cap, .inr (.inr (.inr (.inr (f1_1))))))] ++ va_pl LS (spE st hi)) H := hP
    have hD : va_D A ([(a, .inr (16, [.ref (e), .int (zI ((m : Nat) : Int)), .null, .int (zI ((mc) + 1))])), (e, .inl (dA 7, cap, .inr (.inr (.inr (.inr (f1_1))))))] ++ va_pl LS (spE st hi)) := hD
    have hp_63 : pqF f1_1 g1_2 m ∧ hpO (spK st hi) g1_2 m ∧ hpS g1_2 m ((fun y => S9 y ∧ y ≠ gg 0)) ∧ ∀ i, m ≤ i → f1_1 i = ((va_up f m none)) i := hp_63
    refine W.widen (k := 0) (n := 0) (Nat.le_of_ble_eq_true rfl) (Nat.le_of_ble_eq_true rfl) ?_
    refine lv_goto (tgt := 79) hx hb dJ21_poll_66 (by decide) ?_
    refine lv_aload_n hx hb dJ21_poll_79 rfl (lv_at hl 3 rfl) ?_
    exact z_aretG C hlk hr (Or.inl ⟨_, rfl⟩) hQ (Or.inr ⟨_, rfl⟩) ⟨f1_1, g1_2⟩ rfl (by first | exact ⟨hp_63.1, hp_63.2.1, hp_63.2.2.1, (fun i hi => (hp_63.2.2.2 i hi).trans (pqN_pop hN9 i hi)), mn9⟩ | exact ⟨(fun i hi => by omega), (fun i _ hi => by omega), hpS_pop hs9, pqN_pop hN9, mn9⟩) hP hD hS (Nat.le_of_ble_eq_true rfl) (Nat.le_of_ble_eq_true rfl) dJ21_poll_80
