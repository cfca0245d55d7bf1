/-! PriorityQueue: offer (printed by tools/s_pq2.py) -/
/-- nothing lies at n or beyond -/
def pqN (f : Nat → Option Nat) (n : Nat) : Prop := ∀ i, n ≤ i → f i = none
theorem pqF_push {f : Nat → Option Nat} {gg : Nat → Nat} {n x : Nat} (h : pqF f gg n) : pqH f (va_up gg n x) (n + 1) n := by
  intro i hi hne
  rw [va_upn hne]
  exact h i (by omega)
theorem pqF_pop {f : Nat → Option Nat} {gg : Nat → Nat} {n x : Nat} (h : pqF f gg (n + 1)) : pqH (va_up f n none) (va_up gg 0 x) n 0 := by
  intro i hi hne
  rw [va_upn (show i ≠ n by omega), va_upn hne]
  exact h i (by omega)

set_option maxHeartbeats 600000 in
set_option maxRecDepth 100000 in
theorem k_J21_siftUp (l : Launch) (D : va_G) (dA : Nat → ClassId) (B : Nat) (en : Nat → Nat → Nat) (a : Nat) (mc : Int) (fz : zFt) (e cap n cq x : Nat) (f : Nat → Option Nat) (gg : Nat → Nat) (V : Nat → Nat) (S9 : Nat → Prop) (hcap : n < cap ∧ cap ≤ 100000) (hV9 : ∀ y, (y = x ∨ S9 y) → (y, (V y : Int)) ∈ fz.1 ∧ 0 < V y ∧ V y < 65536) (hc9 : (cq, "SpinStrip$Greater") ∈ fz.2) (hf : pqF f gg n) (ho9 : hpO (fun y => grK (V y)) gg n) (hs9 : hpS gg n S9) (hx9 : ¬ S9 x) : zH (S := (Nat → Option Nat) × (Nat → Nat)) l yJ21_siftUp cJ21_siftUp 3 (none) (zRmW 5 111 0 0) B en fz D dA [.ref (a), .int (zI ((n : Nat) : Int)), .ref (x)] [(a, .inr (16, [.ref (e), .int (zI ((n : Nat) : Int)), .ref (cq), .int (zI (mc))])), (e, .inl (dA 7, cap, .inr (.inr (.inr (.inr (f))))))] (fun u : (Nat → Option Nat) × (Nat → Nat) => none) (fun u : (Nat → Option Nat) × (Nat → Nat) => pqF u.1 u.2 (n + 1) ∧ hpO (fun y => grK (V y)) u.2 (n + 1) ∧ hpS u.2 (n + 1) (fun y => y = x ∨ S9 y) ∧ ∀ i, n + 1 ≤ i → u.1 i = f i) (fun u : (Nat → Option Nat) × (Nat → Nat) => [(a, .inr (16, [.ref (e), .int (zI ((n : Nat) : Int)), .ref (cq), .int (zI (mc))])), (e, .inl (dA 7, cap, .inr (.inr (.inr (.inr (u.1))))))]) := by
  refine zH.of (by decide +kernel) rfl ?_
  intro pp ee ss mm args below meth cd Q A C hr hlk hQ hA hV hin H locs hP hD hS ls hl
  have hx := C.1.1
  have hb := C.1.2.1
  have hl : lv_has ls 3 [(0, .ref (a)), (1, .int (zI ((n : Nat) : Int))), (2, .ref (x))] := hl
  refine lv_aload_n hx hb dJ21_siftUp_0 rfl (lv_at hl 0 rfl) ?_
  refine z_get C hP 0 rfl rfl in_J21 2 (by decide) q1676 rfl dJ21_siftUp_1 ?_
  refine lv_ifnull hx hb dJ21_siftUp_4 ?_
  refine lv_iload_n hx hb dJ21_siftUp_7 rfl (lv_at hl 1 rfl) ?_
  refine lv_aload_n hx hb dJ21_siftUp_8 rfl (lv_at hl 2 rfl) ?_
  refine lv_aload_n hx hb dJ21_siftUp_9 rfl (lv_at hl 0 rfl) ?_
  refine z_get C hP 0 rfl rfl in_J21 0 (by decide) q1674 rfl dJ21_siftUp_10 ?_
  refine lv_aload_n hx hb dJ21_siftUp_13 rfl (lv_at hl 0 rfl) ?_
  refine z_get C hP 0 rfl rfl in_J21 2 (by decide) q1676 rfl dJ21_siftUp_14 ?_
  refine z_hS (n := 4) (As := [.int (zI ((n : Nat) : Int)), .ref (x), .ref (e), .ref (cq)]) (rest := []) (wc := [(e, .inl (dA 7, cap, .inr (.inr (.inr (.inr (f))))))]) (wr := [(a, .inr (16, [.ref (e), .int (zI ((n : Nat) : Int)), .ref (cq), .int (zI (mc))]))]) C hV hP hD hS hA [1] [0] rfl rfl (by decide) (by decide) (by decide) (k_J21_siftUpUsingComparator l D dA B en (n) (f) (fz) (e) (cap) (n + 1) (cq) (x) ((va_up gg n x)) (V) ((fun y => y = x ∨ S9 y)) (by first | with_reducible assumption | omega | with_reducible rfl) hV9 (by first | with_reducible assumption | omega | with_reducible rfl) (by first | with_reducible assumption | omega | with_reducible rfl) va_upe (pqF_push hf) (hp_up0 x ho9) (hpS_push hs9 hx9)) ((hV.fz hS).narrow (va_free hD hS hA [1] rfl)) (lw_S q1728 q1729 q146 q1730) (by decide +kernel) rfl ⟨Nat.le_of_ble_eq_true rfl, Nat.le_of_ble_eq_true rfl⟩ hl.1 rfl (Nat.le_of_ble_eq_true rfl) dJ21_siftUp_17 (by decide) (by decide) (fun u_17 H locs hp_17 hP hD hS _ => ?_)
  obtain ⟨f1_1, g1_2⟩ := u_17
  have hP := hP.sub (ws' := [(a, .inr (16, [.ref (e), .int (zI ((n : Nat) : Int)), .ref (cq), .int (zI (mc))])), (e, .inl (dA 7, cap, .inr (.inr (.inr (.inr (f1_1))))))]) [0, 1] rfl
  have hD := hD.sub (ws' := [(a, .inr (16, [.ref (e), .int (zI ((n : Nat) : Int)), .ref (cq), .int (zI (mc))])), (e, .inl (dA 7, cap, .inr (.inr (.inr (.inr (f1_1))))))]) [0, 1] (by decide) rfl
  have hp_17 : pqF f1_1 g1_2 (n + 1) ∧ hpO (fun y => grK (V y)) g1_2 (n + 1) ∧ hpS g1_2 (n + 1) ((fun y => y = x ∨ S9 y)) ∧ ∀ i, (n + 1) ≤ i → f1_1 i = f i := hp_17
  refine W.widen (k := 0) (n := 0) (Nat.le_of_ble_eq_true rfl) (Nat.le_of_ble_eq_true rfl) ?_
  refine lv_goto (tgt := 32) hx hb dJ21_siftUp_20 (by decide) ?_
  exact z_vretG C hlk hr hQ ⟨f1_1, g1_2⟩ rfl hp_17 (hP.sub [0, 1] rfl) (hD.sub [0, 1] (by decide) rfl) hS (Nat.le_of_ble_eq_true rfl) (Nat.le_of_ble_eq_true rfl) dJ21_siftUp_32

set_option maxHeartbeats 600000 in
set_option maxRecDepth 100000 in
theorem k_J21_offer (l : Launch) (D : va_G) (dA : Nat → ClassId) (B : Nat) (en : Nat → Nat → Nat) (a : Nat) (mc : Int) (fz : zFt) (e cap n cq x : Nat) (f : Nat → Option Nat) (gg : Nat → Nat) (V : Nat → Nat) (S9 : Nat → Prop) (hcap : n < cap ∧ cap ≤ 100000) (hV9 : ∀ y, (y = x ∨ S9 y) → (y, (V y : Int)) ∈ fz.1 ∧ 0 < V y ∧ V y < 65536) (hc9 : (cq, "SpinStrip$Greater") ∈ fz.2) (hf : pqF f gg n) (ho9 : hpO (fun y => grK (V y)) gg n) (hs9 : hpS gg n S9) (hx9 : ¬ S9 x) : zH (S := (Nat → Option Nat) × (Nat → Nat)) l yJ21_offer cJ21_offer 3 (some .boolean) (zRmW 6 133 0 0) B en fz D dA [.ref (a), .ref (x)] [(a, .inr (16, [.ref (e), .int (zI ((n : Nat) : Int)), .ref (cq), .int (zI (mc))])), (e, .inl (dA 7, cap, .inr (.inr (.inr (.inr (f))))))] (fun u : (Nat → Option Nat) × (Nat → Nat) => some (.int (zB (true)))) (fun u : (Nat → Option Nat) × (Nat → Nat) => pqF u.1 u.2 (n + 1) ∧ hpO (fun y => grK (V y)) u.2 (n + 1) ∧ hpS u.2 (n + 1) (fun y => y = x ∨ S9 y) ∧ ∀ i, n + 1 ≤ i → u.1 i = f i) (fun u : (Nat → Option Nat) × (Nat → Nat) => [(a, .inr (16, [.ref (e), .int (zI ((n + 1 : Nat) : Int)), .ref (cq), .int (zI (mc + 1))])), (e, .inl (dA 7, cap, .inr (.inr (.inr (.inr (u.1))))))]) := by
  refine zH.of (by decide +kernel) rfl ?_
  intro pp ee ss mm args below meth cd Q A C hr hlk hQ hA hV hin H locs hP hD hS ls hl
  have hx := C.1.1
  have hb := C.1.2.1
  have hl : lv_has ls 3 [(0, .ref (a)), (1, .ref (x))] := hl
  refine lv_aload_n hx hb dJ21_offer_0 rfl (lv_at hl 1 rfl) ?_
  refine lv_ifnonnull (tgt := 12) hx hb dJ21_offer_1 (by decide) ?_
  refine lv_aload_n hx hb dJ21_offer_12 rfl (lv_at hl 0 rfl) ?_
  refine lv_dup hx hb dJ21_offer_13 rfl ?_
  refine z_get C hP 0 rfl rfl in_J21 3 (by decide) q1677 rfl dJ21_offer_14 ?_
  refine z_iconst C dJ21_offer_17 ?_
  refine z_iadd C dJ21_offer_18 ?_
  refine z_put C hP hD hS 0 rfl rfl in_J21 tyJ21_ok nmJ21 3 (by decide) q1677 rfl (v := .int (zI ((mc) + 1))) rfl rfl (Nat.le_of_ble_eq_true rfl) (ws' := [(a, .inr (16, [.ref (e), .int (zI ((n : Nat) : Int)), .ref (cq), .int (zI ((mc) + 1))])), (e, .inl (dA 7, cap, .inr (.inr (.inr (.inr (f))))))]) rfl dJ21_offer_19 (fun H locs hP hD hS => ?_)
  refine lv_aload_n hx hb dJ21_offer_22 rfl (lv_at hl 0 rfl) ?_
  refine z_get C hP 0 rfl rfl in_J21 1 (by decide) q1675 rfl dJ21_offer_23 ?_
  refine lv_istore_n (lv' := [(2, .int (zI ((n : Nat) : Int))), (0, .ref (a)), (1, .ref (x))]) hx hb dJ21_offer_26 rfl hl (by decide) rfl (fun ls hl => ?_)
  refine lv_iload_n hx hb dJ21_offer_27 rfl (lv_at hl 0 rfl) ?_
  refine lv_aload_n hx hb dJ21_offer_28 rfl (lv_at hl 1 rfl) ?_
  refine z_get C hP 0 rfl rfl in_J21 0 (by decide) q1674 rfl dJ21_offer_29 ?_
  refine z_alen C hP 1 7 rfl rfl rfl dJ21_offer_32 ?_
  refine z_icmp_lt (tgt := 43) C ⟨by omega, by omega⟩ ⟨by omega, by omega⟩ dJ21_offer_33 (by decide) (fun c_33 => ?_) (fun c_33 => ?_)
  · refine lv_aload_n hx hb dJ21_offer_43 rfl (lv_at hl 1 rfl) ?_
    refine lv_iload_n hx hb dJ21_offer_44 rfl (lv_at hl 0 rfl) ?_
    refine lv_aload_n hx hb dJ21_offer_45 rfl (lv_at hl 2 rfl) ?_
    refine z_hV (n := 2) (As := [.int (zI ((n : Nat) : Int)), .ref (x)]) (rest := []) (wc := [(a, .inr (16, [.ref (e), .int (zI ((n : Nat) : Int)), .ref (cq), .int (zI ((mc) + 1))])), (e, .inl (dA 7, cap, .inr (.inr (.inr (.inr (f))))))]) (wr := []) C hV hP hD hS hA [0, 1] [] rfl rfl (by decide) (by decide) (by decide) (k_J21_siftUp l D dA B en (a) ((mc) + 1) (fz) (e) (cap) (n) (cq) (x) (f) (gg) (V) (S9) (by first | with_reducible assumption | omega | with_reducible rfl) (by first | with_reducible assumption | omega | with_reducible rfl) (by first | with_reducible assumption | omega | with_reducible rfl) (by first | with_reducible assumption | omega | with_reducible rfl) (by first | with_reducible assumption | omega | with_reducible rfl) (by first | with_reducible assumption | omega | with_reducible rfl) (by first | with_reducible assumption | omega | with_reducible rfl)) ((hV.fz hS).narrow (va_free hD hS hA [0, 1] rfl)) (lw_V q1724 q1726 qs56 q146 q1727) (by decide +kernel) rfl ⟨Nat.le_of_ble_eq_true rfl, Nat.le_of_ble_eq_true rfl⟩ hl.1 0 rfl rfl rfl (Nat.le_of_ble_eq_true rfl) dJ21_offer_46 (by decide) (by decide) (fun u_46 H locs hp_46 hP hD hS _ => ?_)
    obtain ⟨f1_1, g1_2⟩ := u_46
    have hP := hP.sub (ws' := [(a, .inr (16, [.ref (e), .int (zI ((n : Nat) : Int)), .ref (cq), .int (zI (((mc) + 1)))])), (e, .inl (dA 7, cap, .inr (.inr (.inr (.inr (f1_1))))))]) [0, 1] rfl
    have hD := hD.sub (ws' := [(a, .inr (16, [.ref (e), .int (zI ((n : Nat) : Int)), .ref (cq), .int (zI (((mc) + 1)))])), (e, .inl (dA 7, cap, .inr (.inr (.inr (.inr (f1_1))))))]) [0, 1] (by decide) rfl
    have hp_46 : pqF f1_1 g1_2 (n + 1) ∧ hpO (fun y => grK (V y)) g1_2 (n + 1) ∧ hpS g1_2 (n + 1) (fun y => y = x ∨ S9 y) ∧ ∀ i, n + 1 ≤ i → f1_1 i = f i := hp_46
    refine W.widen (k := 0) (n := 0) (Nat.le_of_ble_eq_true rfl) (Nat.le_of_ble_eq_true rfl) ?_
    refine lv_aload_n hx hb dJ21_offer_49 rfl (lv_at hl 1 rfl) ?_
    refine lv_iload_n hx hb dJ21_offer_50 rfl (lv_at hl 0 rfl) ?_
    refine z_iconst C dJ21_offer_51 ?_
    refine z_iaddN C (n) (1) rfl rfl dJ21_offer_52 ?_
    refine z_put C hP hD hS 0 rfl rfl in_J21 tyJ21_ok nmJ21 1 (by decide) q1675 rfl (v := .int (zI (((n + 1) : Nat) : Int))) rfl rfl (Nat.le_of_ble_eq_true rfl) (ws' := [(a, .inr (16, [.ref (e), .int (zI (((n + 1) : Nat) : Int)), .ref (cq), .int (zI (((mc) + 1)))])), (e, .inl (dA 7, cap, .inr (.inr (.inr (.inr (f1_1))))))]) rfl dJ21_offer_53 (fun H locs hP hD hS => ?_)
    refine z_iconst C dJ21_offer_56 ?_
    exact z_zretG (a := true) C hlk hr hQ ⟨f1_1, g1_2⟩ rfl hp_46 (hP.sub [0, 1] rfl) (hD.sub [0, 1] (by decide) rfl) hS (Nat.le_of_ble_eq_true rfl) (Nat.le_of_ble_eq_true rfl) dJ21_offer_57
  · omega

set_option maxHeartbeats 600000 in
set_option maxRecDepth 100000 in
theorem k_J21_add (l : Launch) (D : va_G) (dA : Nat → ClassId) (B : Nat) (en : Nat → Nat → Nat) (a : Nat) (mc : Int) (fz : zFt) (e cap n cq x : Nat) (f : Nat → Option Nat) (gg : Nat → Nat) (V : Nat → Nat) (S9 : Nat → Prop) (hcap : n < cap ∧ cap ≤ 100000) (hV9 : ∀ y, (y = x ∨ S9 y) → (y, (V y : Int)) ∈ fz.1 ∧ 0 < V y ∧ V y < 65536) (hc9 : (cq, "SpinStrip$Greater") ∈ fz.2) (hf : pqF f gg n) (ho9 : hpO (fun y => grK (V y)) gg n) (hs9 : hpS gg n S9) (hx9 : ¬ S9 x) : zH (S := (Nat → Option Nat) × (Nat → Nat)) l yJ21_add cJ21_add 2 (some .boolean) (zRmW 7 155 0 0) B en fz D dA [.ref (a), .ref (x)] [(a, .inr (16, [.ref (e), .int (zI ((n : Nat) : Int)), .ref (cq), .int (zI (mc))])), (e, .inl (dA 7, cap, .inr (.inr (.inr (.inr (f))))))] (fun u : (Nat → Option Nat) × (Nat → Nat) => some (.int (zB (true)))) (fun u : (Nat → Option Nat) × (Nat → Nat) => pqF u.1 u.2 (n + 1) ∧ hpO (fun y => grK (V y)) u.2 (n + 1) ∧ hpS u.2 (n + 1) (fun y => y = x ∨ S9 y) ∧ ∀ i, n + 1 ≤ i → u.1 i = f i) (fun u : (Nat → Option Nat) × (Nat → Nat) => [(a, .inr (16, [.ref (e), .int (zI ((n + 1 : Nat) : Int)), .ref (cq), .int (zI (mc + 1))])), (e, .inl (dA 7, cap, .inr (.inr (.inr (.inr (u.1))))))]) := by
  refine zH.of (by decide +kernel) rfl ?_
  intro pp ee ss mm args below meth cd Q A C hr hlk hQ hA hV hin H locs hP hD hS ls hl
  have hx := C.1.1
  have hb := C.1.2.1
  have hl : lv_has ls 2 [(0, .ref (a)), (1, .ref (x))] := hl
  refine lv_aload_n hx hb dJ21_add_0 rfl (lv_at hl 0 rfl) ?_
  refine lv_aload_n hx hb dJ21_add_1 rfl (lv_at hl 1 rfl) ?_
  refine z_hV (n := 1) (As := [.ref (x)]) (rest := []) (wc := [(a, .inr (16, [.ref (e), .int (zI ((n : Nat) : Int)), .ref (cq), .int (zI (mc))])), (e, .inl (dA 7, cap, .inr (.inr (.inr (.inr (f))))))]) (wr := []) C hV hP hD hS hA [0, 1] [] rfl rfl (by decide) (by decide) (by decide) (k_J21_offer l D dA B en (a) (mc) (fz) (e) (cap) (n) (cq) (x) (f) (gg) (V) (S9) (by first | with_reducible assumption | omega | with_reducible rfl) (by first | with_reducible assumption | omega | with_reducible rfl) (by first | with_reducible assumption | omega | with_reducible rfl) (by first | with_reducible assumption | omega | with_reducible rfl) (by first | with_reducible assumption | omega | with_reducible rfl) (by first | with_reducible assumption | omega | with_reducible rfl) (by first | with_reducible assumption | omega | with_reducible rfl)) ((hV.fz hS).narrow (va_free hD hS hA [0, 1] rfl)) (lw_V q1707 q1708 q1709 q146 q1710) (by decide +kernel) rfl ⟨Nat.le_of_ble_eq_true rfl, Nat.le_of_ble_eq_true rfl⟩ hl.1 0 rfl rfl rfl (Nat.le_of_ble_eq_true rfl) dJ21_add_2 (by decide) (by decide) (fun u_2 H locs hp_2 hP hD hS _ => ?_)
  obtain ⟨f1_1, g1_2⟩ := u_2
  have hP := hP.sub (ws' := [(a, .inr (16, [.ref (e), .int (zI ((n + 1 : Nat) : Int)), .ref (cq), .int (zI (mc + 1))])), (e, .inl (dA 7, cap, .inr (.inr (.inr (.inr (f1_1))))))]) [0, 1] rfl
  have hD := hD.sub (ws' := [(a, .inr (16, [.ref (e), .int (zI ((n + 1 : Nat) : Int)), .ref (cq), .int (zI (mc + 1))])), (e, .inl (dA 7, cap, .inr (.inr (.inr (.inr (f1_1))))))]) [0, 1] (by decide) rfl
  have hp_2 : pqF f1_1 g1_2 (n + 1) ∧ hpO (fun y => grK (V y)) g1_2 (n + 1) ∧ hpS g1_2 (n + 1) (fun y => y = x ∨ S9 y) ∧ ∀ i, n + 1 ≤ i → f1_1 i = f i := hp_2
  refine W.widen (k := 0) (n := 0) (Nat.le_of_ble_eq_true rfl) (Nat.le_of_ble_eq_true rfl) ?_
  exact z_zretG (a := true) C hlk hr hQ ⟨f1_1, g1_2⟩ rfl hp_2 (hP.sub [0, 1] rfl) (hD.sub [0, 1] (by decide) rfl) hS (Nat.le_of_ble_eq_true rfl) (Nat.le_of_ble_eq_true rfl) dJ21_add_5

set_option maxHeartbeats 600000 in
set_option maxRecDepth 100000 in
theorem k_J21_size (l : Launch) (D : va_G) (dA : Nat → ClassId) (a e cq n : Nat) (mc : Int) : zM l yJ21_size cJ21_size 1 (some .int) (zRm 0 0) D dA [.ref (a)] [(a, .inr (16, [.ref (e), .int (zI ((n : Nat) : Int)), .ref (cq), .int (zI (mc))]))] (some (.int (zI ((n : Nat) : Int)))) := by
  refine zM.of (by decide +kernel) rfl ?_
  intro pp ee ss mm args below meth cd Q C hr hlk hQ hP ls hl
  have hx := C.1.1
  have hb := C.1.2.1
  have hl : lv_has ls 1 [(0, .ref (a))] := hl
  refine lv_aload_n hx hb dJ21_size_0 rfl (lv_at hl 0 rfl) ?_
  refine z_get C hP 0 rfl rfl in_J21 1 (by decide) q1675 rfl dJ21_size_1 ?_
  exact z_iret C hlk hr hQ (by first | rfl | omega) dJ21_size_4
