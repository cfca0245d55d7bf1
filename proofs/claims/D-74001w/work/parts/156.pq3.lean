/-! PriorityQueue: poll (printed by tools/s_pq3.py) -/
theorem pqN_pop {f : Nat → Option Nat} {n : Nat} (h : pqN f (n + 1)) : pqN (va_up f n none) n := by
  intro i hi
  by_cases c : i = n
  · subst c; exact va_upe
  · rw [va_upn c]; exact h i (by omega)
theorem pq_min {K : Nat → Int} {gg : Nat → Nat} {n : Nat} {S : Nat → Prop} (h : hpO K gg n) (hs : hpS gg n S) : ∀ y, S y → K (gg 0) ≤ K y := by
  intro y hy
  obtain ⟨i, hi, rfl⟩ := hs.2.1 y hy
  exact hp_root h i hi

set_option maxHeartbeats 600000 in
set_option maxRecDepth 100000 in
theorem k_J21_poll (l : Launch) (D : va_G) (dA : Nat → ClassId) (B : Nat) (en : Nat → Nat → Nat) (a : Nat) (mc : Int) (fz : zFt) (e cap m cq : Nat) (f : Nat → Option Nat) (gg : Nat → Nat) (V : Nat → Nat) (S9 : Nat → Prop) (hcap : m + 1 ≤ cap ∧ cap ≤ 100000) (hV9 : ∀ y, S9 y → (y, (V y : Int)) ∈ fz.1 ∧ 0 < V y ∧ V y < 65536) (hc9 : (cq, "SpinStrip$Greater") ∈ fz.2) (hf : pqF f gg (m + 1)) (ho9 : hpO (fun y => grK (V y)) gg (m + 1)) (hs9 : hpS gg (m + 1) S9) (hN9 : pqN f (m + 1)) : zH (S := (Nat → Option Nat) × (Nat → Nat)) l yJ21_poll cJ21_poll 6 (some (.object "java/lang/Object")) (zRmW 5 114 0 0) B en fz D dA [.ref (a)] [(a, .inr (16, [.ref (e), .int (zI ((m + 1 : Nat) : Int)), .ref (cq), .int (zI (mc))])), (e, .inl (dA 7, cap, .inr (.inr (.inr (.inr (f))))))] (fun u : (Nat → Option Nat) × (Nat → Nat) => some (.ref (gg 0))) (fun u : (Nat → Option Nat) × (Nat → Nat) => pqF u.1 u.2 m ∧ hpO (fun y => grK (V y)) u.2 m ∧ hpS u.2 m (fun y => S9 y ∧ y ≠ gg 0) ∧ pqN u.1 m ∧ ∀ y, S9 y → grK (V (gg 0)) ≤ grK (V y)) (fun u : (Nat → Option Nat) × (Nat → Nat) => [(a, .inr (16, [.ref (e), .int (zI ((m : Nat) : Int)), .ref (cq), .int (zI (mc + 1))])), (e, .inl (dA 7, cap, .inr (.inr (.inr (.inr (u.1))))))]) := by
  refine zH.of (by decide +kernel) rfl ?_
  intro pp ee ss mm args below meth cd Q A C hr hlk hQ hA hV hin H locs hP hD hS ls hl
  have hx := C.1.1
  have hb := C.1.2.1
  have hl : lv_has ls 6 [(0, .ref (a))] := hl
  have mn9 : ∀ y, S9 y → grK (V (gg 0)) ≤ grK (V y) := pq_min (K := fun y => grK (V y)) ho9 hs9
  refine lv_aload_n hx hb dJ21_poll_0 rfl (lv_at hl 0 rfl) ?_
  refine z_get C hP 0 rfl rfl in_J21 0 (by decide) q1674 rfl dJ21_poll_1 ?_
  refine lv_dup hx hb dJ21_poll_4 rfl ?_
  refine lv_astore_n (lv' := [(1, .ref (e)), (0, .ref (a))]) hx hb dJ21_poll_5 rfl hl (by decide) rfl (fun ls hl => ?_)
  refine z_iconst C dJ21_poll_6 ?_
  refine z_aaldW C hP 1 7 rfl rfl (0) rfl (by omega) (by first | decide | omega) dJ21_poll_7 ?_
  rw [hf 0 (by omega)]
  refine lv_dup hx hb dJ21_poll_8 rfl ?_
  refine lv_astore_n (lv' := [(2, .ref (gg 0)), (1, .ref (e)), (0, .ref (a))]) hx hb dJ21_poll_9 rfl hl (by decide) rfl (fun ls hl => ?_)
  refine lv_ifnull hx hb dJ21_poll_10 ?_
  refine lv_aload_n hx hb dJ21_poll_13 rfl (lv_at hl 2 rfl) ?_
  refine lv_dup hx hb dJ21_poll_14 rfl ?_
  refine z_get C hP 0 rfl rfl in_J21 3 (by decide) q1677 rfl dJ21_poll_15 ?_
  refine z_iconst C dJ21_poll_18 ?_
  refine z_iadd C dJ21_poll_19 ?_
  refine z_put C hP hD hS 0 rfl rfl in_J21 tyJ21_ok nmJ21 3 (by decide) q1677 rfl (v := .int (zI ((mc) + 1))) rfl rfl (Nat.le_of_ble_eq_true rfl) (ws' := [(a, .inr (16, [.ref (e), .int (zI ((m + 1 : Nat) : Int)), .ref (cq), .int (zI ((mc) + 1))])), (e, .inl (dA 7, cap, .inr (.inr (.inr (.inr (f))))))]) rfl dJ21_poll_20 (fun H locs hP hD hS => ?_)
  refine lv_aload_n hx hb dJ21_poll_23 rfl (lv_at hl 1 rfl) ?_
  refine lv_aload_n hx hb dJ21_poll_24 rfl (lv_at hl 2 rfl) ?_
  refine lv_dup hx hb dJ21_poll_25 rfl ?_
  refine z_get C hP 0 rfl rfl in_J21 1 (by decide) q1675 rfl dJ21_poll_26 ?_
  refine z_iconst C dJ21_poll_29 ?_
  refine z_isubN C (m + 1) (1) rfl rfl (by omega) dJ21_poll_30 ?_
  refine lv_dup_x1 hx hb dJ21_poll_31 rfl rfl ?_
  refine z_put C hP hD hS 0 rfl rfl in_J21 tyJ21_ok nmJ21 1 (by decide) q1675 rfl (v := .int (zI ((m : Nat) : Int))) rfl rfl (Nat.le_of_ble_eq_true rfl) (ws' := [(a, .inr (16, [.ref (e), .int (zI ((m : Nat) : Int)), .ref (cq), .int (zI ((mc) + 1))])), (e, .inl (dA 7, cap, .inr (.inr (.inr (.inr (f))))))]) rfl dJ21_poll_32 (fun H locs hP hD hS => ?_)
  refine lv_dup hx hb dJ21_poll_35 rfl ?_
  refine lv_istore_n (lv' := [(3, .int (zI ((m : Nat) : Int))), (2, .ref (gg 0)), (1, .ref (e)), (0, .ref (a))]) hx hb dJ21_poll_36 rfl hl (by decide) rfl (fun ls hl => ?_)
  refine z_aaldW C hP 1 7 rfl rfl (m) rfl (by omega) (by first | decide | omega) dJ21_poll_37 ?_
  rw [hf m (by omega)]
  refine lv_astore (lv' := [(4, .ref (gg m)), (3, .int (zI ((m : Nat) : Int))), (2, .ref (gg 0)), (1, .ref (e)), (0, .ref (a))]) hx hb dJ21_poll_38 hl (by decide) rfl (fun ls hl => ?_)
  refine lv_aload_n hx hb dJ21_poll_40 rfl (lv_at hl 3 rfl) ?_
  refine lv_iload_n hx hb dJ21_poll_41 rfl (lv_at hl 1 rfl) ?_
  refine lv_null C.1.1 C.1.2.1 dJ21_poll_42 ?_
  refine z_aastN C hP hD hS 1 7 rfl rfl (m) rfl (by omega) (by first | decide | omega) (ws' := [(a, .inr (16, [.ref (e), .int (zI ((m : Nat) : Int)), .ref (cq), .int (zI ((mc) + 1))])), (e, .inl (dA 7, cap, .inr (.inr (.inr (.inr ((va_up f m none)))))))]) rfl dJ21_poll_43 (fun H locs hP hD hS => ?_)
  refine lv_iload_n hx hb dJ21_poll_44 rfl (lv_at hl 1 rfl) ?_
  refine z_if_le (tgt := 79) C ⟨by omega, by omega⟩ dJ21_poll_45 (by decide) (fun c_45 => ?_) (fun c_45 => ?_)
  · refine lv_aload_n hx hb dJ21_poll_79 rfl (lv_at hl 2 rfl) ?_
    exact z_aretG C hlk hr (Or.inl ⟨_, rfl⟩) hQ (Or.inr ⟨_, rfl⟩) ⟨(va_up f m none), (va_up gg 0 (gg m))⟩ rfl (by first | exact ⟨hp_76.1, hp_76.2.1, hp_76.2.2.1, (fun i hi => (hp_76.2.2.2 i hi).trans (pqN_pop hN9 i hi)), mn9⟩ | exact ⟨(fun i hi => by omega), (fun i _ hi => by omega), hpS_pop hs9, pqN_pop hN9, mn9⟩) (hP.sub [0, 1] rfl) (hD.sub [0, 1] (by decide) rfl) hS (Nat.le_of_ble_eq_true rfl) (Nat.le_of_ble_eq_true rfl) dJ21_poll_80
  · refine lv_aload_n hx hb dJ21_poll_48 rfl (lv_at hl 4 rfl) ?_
    refine z_get C hP 0 rfl rfl in_J21 2 (by decide) q1676 rfl dJ21_poll_49 ?_
    refine lv_dup hx hb dJ21_poll_52 rfl ?_
    refine lv_astore (lv' := [(5, .ref (cq)), (4, .ref (gg m)), (3, .int (zI ((m : Nat) : Int))), (2, .ref (gg 0)), (1, .ref (e)), (0, .ref (a))]) hx hb dJ21_poll_53 hl (by decide) rfl (fun ls hl => ?_)
    refine lv_ifnonnull (tgt := 69) hx hb dJ21_poll_55 (by decide) ?_
    refine z_iconst C dJ21_poll_69 ?_
    refine lv_aload hx hb dJ21_poll_70 (lv_at hl 1 rfl) ?_
    refine lv_aload_n hx hb dJ21_poll_72 rfl (lv_at hl 4 rfl) ?_
    refine lv_iload_n hx hb dJ21_poll_73 rfl (lv_at hl 2 rfl) ?_
    refine lv_aload hx hb dJ21_poll_74 (lv_at hl 0 rfl) ?_
    refine z_hS (n := 5) (As := [.int (zI 0), .ref (gg m), .ref (e), .int (zI ((m : Nat) : Int)), .ref (cq)]) (rest := []) (wc := [(e, .inl (dA 7, cap, .inr (.inr (.inr (.inr ((va_up f m none)))))))]) (wr := [(a, .inr (16, [.ref (e), .int (zI ((m : Nat) : Int)), .ref (cq), .int (zI ((mc) + 1))]))]) C hV hP hD hS hA [1] [0] rfl rfl (by decide) (by decide) (by decide) (k_J21_siftDownUsingComparator l D dA B en (0) ((va_up f m none)) (fz) (e) (cap) (m) (cq) (gg m) ((va_up gg 0 (gg m))) (V) ((fun y => S9 y ∧ y ≠ gg 0)) (by first | with_reducible assumption | omega | with_reducible rfl) (fun y hy => hV9 y hy.1) (by first | with_reducible assumption | omega | with_reducible rfl) (by first | with_reducible assumption | omega | with_reducible rfl) va_upe (pqF_pop hf) (hp_dn0 _ ho9) (hpS_pop hs9)) ((hV.fz hS).narrow (va_free hD hS hA [1] rfl)) (lw_S q1746 q1747 q146 q1748) (by decide +kernel) rfl ⟨Nat.le_of_ble_eq_true rfl, Nat.le_of_ble_eq_true rfl⟩ hl.1 rfl (Nat.le_of_ble_eq_true rfl) dJ21_poll_76 (by decide) (by decide) (fun u_76 H locs hp_76 hP hD hS _ => ?_)
    obtain ⟨f1_1, g1_2⟩ := u_76
    have hP := hP.sub (ws' := [(a, .inr (16, [.ref (e), .int (zI ((m : Nat) : Int)), .ref (cq), .int (zI ((mc) + 1))])), (e, .inl (dA 7, cap, .inr (.inr (.inr (.inr (f1_1))))))]) [0, 1] rfl
    have hD := hD.sub (ws' := [(a, .inr (16, [.ref (e), .int (zI ((m : Nat) : Int)), .ref (cq), .int (zI ((mc) + 1))])), (e, .inl (dA 7, cap, .inr (.inr (.inr (.inr (f1_1))))))]) [0, 1] (by decide) rfl
    have hp_76 : pqF f1_1 g1_2 m ∧ hpO (fun y => grK (V y)) g1_2 m ∧ hpS g1_2 m ((fun y => S9 y ∧ y ≠ gg 0)) ∧ ∀ i, m ≤ i → f1_1 i = ((va_up f m none)) i := hp_76
    refine W.widen (k := 0) (n := 0) (Nat.le_of_ble_eq_true rfl) (Nat.le_of_ble_eq_true rfl) ?_
    refine lv_aload_n hx hb dJ21_poll_79 rfl (lv_at hl 3 rfl) ?_
    exact z_aretG C hlk hr (Or.inl ⟨_, rfl⟩) hQ (Or.inr ⟨_, rfl⟩) ⟨f1_1, g1_2⟩ rfl (by first | exact ⟨hp_76.1, hp_76.2.1, hp_76.2.2.1, (fun i hi => (hp_76.2.2.2 i hi).trans (pqN_pop hN9 i hi)), mn9⟩ | exact ⟨(fun i hi => by omega), (fun i _ hi => by omega), hpS_pop hs9, pqN_pop hN9, mn9⟩) (hP.sub [0, 1] rfl) (hD.sub [0, 1] (by decide) rfl) hS (Nat.le_of_ble_eq_true rfl) (Nat.le_of_ble_eq_true rfl) dJ21_poll_80

set_option maxHeartbeats 600000 in
set_option maxRecDepth 100000 in
theorem k_J20_init (l : Launch) (D : va_G) (dA : Nat → ClassId) (a : Nat) : zG (S := Unit) l yJ20_init cJ20_init 1 (none) (zRmW 2 40 0 0) D dA [.ref (a)] [] (fun _ : Unit => none) (fun _ : Unit => True) (fun _ : Unit => []) := by
  refine zG.of (by decide +kernel) rfl ?_
  intro pp ee ss mm args below meth cd Q A C hr hlk hQ hA hin H locs hP hD hS ls hl
  have hx := C.1.1
  have hb := C.1.2.1
  have hl : lv_has ls 1 [(0, .ref (a))] := hl
  refine lv_aload_n hx hb dJ20_init_0 rfl (lv_at hl 0 rfl) ?_
  refine z_gI (n := 0) (As := []) (rest := []) (wc := []) (wr := []) C hP hD hS hA [] [] rfl rfl (by decide) (by decide) (by decide) (k_J5_init l D dA (a)) q508 q122 q1672 q507 rfl (by decide +kernel) rfl ⟨Nat.le_of_ble_eq_true rfl, Nat.le_of_ble_eq_true rfl⟩ hl.1 rfl (Nat.le_of_ble_eq_true rfl) dJ20_init_1 (by decide) (by decide) (fun _ H locs hp_1 hP hD hS _ => ?_)
  have hP := hP.sub (ws' := []) [] rfl
  have hD := hD.sub (ws' := []) [] (by decide) rfl
  refine W.widen (k := 0) (n := 0) (Nat.le_of_ble_eq_true rfl) (Nat.le_of_ble_eq_true rfl) ?_
  exact z_vretG C hlk hr hQ () rfl trivial (hP.sub [] rfl) (hD.sub [] (by decide) rfl) hS (Nat.le_of_ble_eq_true rfl) (Nat.le_of_ble_eq_true rfl) dJ20_init_4

set_option maxHeartbeats 600000 in
set_option maxRecDepth 100000 in
theorem k_J21_init_2 (l : Launch) (D : va_G) (dA : Nat → ClassId) (a cq : Nat) : zG (S := Nat) l yJ21_init_2 cJ21_init_2 3 (none) (zRmW 3 60 1 11) D dA [.ref (a), .int (zI 11), .ref (cq)] [(a, .inr (16, [.null, .int (zI 0), .null, .int (zI 0)]))] (fun u : Nat => none) (fun u : Nat => True) (fun u : Nat => [(a, .inr (16, [.ref (u), .int (zI 0), .ref (cq), .int (zI 0)])), (u, .inl (dA 7, 11, .inr (.inr (.inr (.inr (fun _ => none))))))]) := by
  refine zG.of (by decide +kernel) rfl ?_
  intro pp ee ss mm args below meth cd Q A C hr hlk hQ hA hin H locs hP hD hS ls hl
  have hx := C.1.1
  have hb := C.1.2.1
  have hl : lv_has ls 3 [(0, .ref (a)), (1, .int (zI 11)), (2, .ref (cq))] := hl
  refine lv_aload_n hx hb dJ21_init_2_0 rfl (lv_at hl 0 rfl) ?_
  refine z_gI (n := 0) (As := []) (rest := []) (wc := []) (wr := [(a, .inr (16, [.null, .int (zI 0), .null, .int (zI 0)]))]) C hP hD hS hA [] [0] rfl rfl (by decide) (by decide) (by decide) (k_J20_init l D dA (a)) q1671 q145 q1669 q1670 rfl (by decide +kernel) rfl ⟨Nat.le_of_ble_eq_true rfl, Nat.le_of_ble_eq_true rfl⟩ hl.1 rfl (Nat.le_of_ble_eq_true rfl) dJ21_init_2_1 (by decide) (by decide) (fun _ H locs hp_1 hP hD hS _ => ?_)
  have hP := hP.sub (ws' := [(a, .inr (16, [.null, .int (zI 0), .null, .int (zI 0)]))]) [0] rfl
  have hD := hD.sub (ws' := [(a, .inr (16, [.null, .int (zI 0), .null, .int (zI 0)]))]) [0] (by decide) rfl
  refine W.widen (k := 0) (n := 0) (Nat.le_of_ble_eq_true rfl) (Nat.le_of_ble_eq_true rfl) ?_
  refine lv_iload_n hx hb dJ21_init_2_4 rfl (lv_at hl 1 rfl) ?_
  refine z_iconst C dJ21_init_2_5 ?_
  refine z_icmp_ge (tgt := 17) C ⟨by decide, by decide⟩ ⟨by decide, by decide⟩ dJ21_init_2_6 (by decide) (fun _ => ?_) (fun c => absurd c (by decide))
  refine lv_aload_n hx hb dJ21_init_2_17 rfl (lv_at hl 0 rfl) ?_
  refine lv_iload_n hx hb dJ21_init_2_18 rfl (lv_at hl 1 rfl) ?_
  refine z_newq C hP hD hS hA 7 rfl (by decide) q1673 (by decide) (11) rfl (Nat.le_of_ble_eq_true rfl) (Nat.le_of_ble_eq_true rfl) (Nat.le_of_ble_eq_true rfl) dJ21_init_2_19 (fun na_1 H hP hD hS => ?_)
  have hP : va_P D vwCl [(a, .inr (16, [.null, .int (zI 0), .null, .int (zI 0)])), (na_1, .inl (dA 7, 11, .inr (.inr (.inr (.inr (fun _ => none))))))] H := hP
  have hD : va_D A [(a, .inr (16, [.null, .int (zI 0), .null, .int (zI 0)])), (na_1, .inl (dA 7, 11, .inr (.inr (.inr (.inr (fun _ => none))))))] := hD
  refine z_put C hP hD hS 0 rfl rfl in_J21 tyJ21_ok nmJ21 0 (by decide) q1674 rfl (v := .ref (na_1)) rfl rfl (Nat.le_of_ble_eq_true rfl) (ws' := [(a, .inr (16, [.ref (na_1), .int (zI 0), .null, .int (zI 0)])), (na_1, .inl (dA 7, 11, .inr (.inr (.inr (.inr (fun _ => none))))))]) rfl dJ21_init_2_22 (fun H locs hP hD hS => ?_)
  refine lv_aload_n hx hb dJ21_init_2_25 rfl (lv_at hl 0 rfl) ?_
  refine lv_aload_n hx hb dJ21_init_2_26 rfl (lv_at hl 2 rfl) ?_
  refine z_putF C hP hD hS 0 rfl rfl in_J21 tyJ21_ok nmJ21 2 (by decide) q1676 rfl hin rfl rfl rfl (Nat.le_of_ble_eq_true rfl) (ws' := [(a, .inr (16, [.ref (na_1), .int (zI 0), .ref (cq), .int (zI 0)])), (na_1, .inl (dA 7, 11, .inr (.inr (.inr (.inr (fun _ => none))))))]) rfl dJ21_init_2_27 (fun H locs hP hD hS => ?_)
  exact z_vretG C hlk hr hQ (na_1) rfl trivial (hP.sub [0, 1] rfl) (hD.sub [0, 1] (by decide) rfl) hS (Nat.le_of_ble_eq_true rfl) (Nat.le_of_ble_eq_true rfl) dJ21_init_2_30

set_option maxHeartbeats 600000 in
set_option maxRecDepth 100000 in
theorem k_J21_init_3 (l : Launch) (D : va_G) (dA : Nat → ClassId) (a cq : Nat) : zG (S := Nat) l yJ21_init_3 cJ21_init_3 2 (none) (zRmW 4 82 1 11) D dA [.ref (a), .ref (cq)] [(a, .inr (16, [.null, .int (zI 0), .null, .int (zI 0)]))] (fun u : Nat => none) (fun u : Nat => True) (fun u : Nat => [(a, .inr (16, [.ref (u), .int (zI 0), .ref (cq), .int (zI 0)])), (u, .inl (dA 7, 11, .inr (.inr (.inr (.inr (fun _ => none))))))]) := by
  refine zG.of (by decide +kernel) rfl ?_
  intro pp ee ss mm args below meth cd Q A C hr hlk hQ hA hin H locs hP hD hS ls hl
  have hx := C.1.1
  have hb := C.1.2.1
  have hl : lv_has ls 2 [(0, .ref (a)), (1, .ref (cq))] := hl
  refine lv_aload_n hx hb dJ21_init_3_0 rfl (lv_at hl 0 rfl) ?_
  refine z_bipush C dJ21_init_3_1 rfl ?_
  refine lv_aload_n hx hb dJ21_init_3_3 rfl (lv_at hl 1 rfl) ?_
  refine z_gI (n := 2) (As := [.int (zI 11), .ref (cq)]) (rest := []) (wc := [(a, .inr (16, [.null, .int (zI 0), .null, .int (zI 0)]))]) (wr := []) C hP hD hS hA [0] [] rfl rfl (by decide) (by decide) (by decide) (k_J21_init_2 l D dA (a) (cq)) q1668 q146 q1666 q1667 rfl (by decide +kernel) rfl ⟨Nat.le_of_ble_eq_true rfl, Nat.le_of_ble_eq_true rfl⟩ hl.1 rfl (Nat.le_of_ble_eq_true rfl) dJ21_init_3_4 (by decide) (by decide) (fun u_4 H locs hp_4 hP hD hS _ => ?_)
  obtain ⟨q9_1, rfl⟩ : ∃ z, z = u_4 := ⟨_, rfl⟩
  have hP := hP.sub (ws' := [(a, .inr (16, [.ref (q9_1), .int (zI 0), .ref (cq), .int (zI 0)])), (q9_1, .inl (dA 7, 11, .inr (.inr (.inr (.inr (fun _ => none))))))]) [0, 1] rfl
  have hD := hD.sub (ws' := [(a, .inr (16, [.ref (q9_1), .int (zI 0), .ref (cq), .int (zI 0)])), (q9_1, .inl (dA 7, 11, .inr (.inr (.inr (.inr (fun _ => none))))))]) [0, 1] (by decide) rfl
  refine W.widen (k := 1) (n := 11) (Nat.le_of_ble_eq_true rfl) (Nat.le_of_ble_eq_true rfl) ?_
  exact z_vretG C hlk hr hQ (q9_1) rfl trivial (hP.sub [0, 1] rfl) (hD.sub [0, 1] (by decide) rfl) hS (Nat.le_of_ble_eq_true rfl) (Nat.le_of_ble_eq_true rfl) dJ21_init_3_7

set_option maxHeartbeats 600000 in
set_option maxRecDepth 100000 in
theorem k_J21_init_2_no (l : Launch) (D : va_G) (dA : Nat → ClassId) (a : Nat) : zG (S := Nat) l yJ21_init_2 cJ21_init_2 3 (none) (zRmW 3 60 1 11) D dA [.ref (a), .int (zI 11), .null] [(a, .inr (16, [.null, .int (zI 0), .null, .int (zI 0)]))] (fun u : Nat => none) (fun u : Nat => True) (fun u : Nat => [(a, .inr (16, [.ref (u), .int (zI 0), .null, .int (zI 0)])), (u, .inl (dA 7, 11, .inr (.inr (.inr (.inr (fun _ => none))))))]) := by
  refine zG.of (by decide +kernel) rfl ?_
  intro pp ee ss mm args below meth cd Q A C hr hlk hQ hA hin H locs hP hD hS ls hl
  have hx := C.1.1
  have hb := C.1.2.1
  have hl : lv_has ls 3 [(0, .ref (a)), (1, .int (zI 11)), (2, .null)] := hl
  refine lv_aload_n hx hb dJ21_init_2_0 rfl (lv_at hl 0 rfl) ?_
  refine z_gI (n := 0) (As := []) (rest := []) (wc := []) (wr := [(a, .inr (16, [.null, .int (zI 0), .null, .int (zI 0)]))]) C hP hD hS hA [] [0] rfl rfl (by decide) (by decide) (by decide) (k_J20_init l D dA (a)) q1671 q145 q1669 q1670 rfl (by decide +kernel) rfl ⟨Nat.le_of_ble_eq_true rfl, Nat.le_of_ble_eq_true rfl⟩ hl.1 rfl (Nat.le_of_ble_eq_true rfl) dJ21_init_2_1 (by decide) (by decide) (fun _ H locs hp_1 hP hD hS _ => ?_)
  have hP := hP.sub (ws' := [(a, .inr (16, [.null, .int (zI 0), .null, .int (zI 0)]))]) [0] rfl
  have hD := hD.sub (ws' := [(a, .inr (16, [.null, .int (zI 0), .null, .int (zI 0)]))]) [0] (by decide) rfl
  refine W.widen (k := 0) (n := 0) (Nat.le_of_ble_eq_true rfl) (Nat.le_of_ble_eq_true rfl) ?_
  refine lv_iload_n hx hb dJ21_init_2_4 rfl (lv_at hl 1 rfl) ?_
  refine z_iconst C dJ21_init_2_5 ?_
  refine z_icmp_ge (tgt := 17) C ⟨by decide, by decide⟩ ⟨by decide, by decide⟩ dJ21_init_2_6 (by decide) (fun _ => ?_) (fun c => absurd c (by decide))
  refine lv_aload_n hx hb dJ21_init_2_17 rfl (lv_at hl 0 rfl) ?_
  refine lv_iload_n hx hb dJ21_init_2_18 rfl (lv_at hl 1 rfl) ?_
  refine z_newq C hP hD hS hA 7 rfl (by decide) q1673 (by decide) (11) rfl (Nat.le_of_ble_eq_true rfl) (Nat.le_of_ble_eq_true rfl) (Nat.le_of_ble_eq_true rfl) dJ21_init_2_19 (fun na_1 H hP hD hS => ?_)
  have hP : va_P D vwCl [(a, .inr (16, [.null, .int (zI 0), .null, .int (zI 0)])), (na_1, .inl (dA 7, 11, .inr (.inr (.inr (.inr (fun _ => none))))))] H := hP
  have hD : va_D A [(a, .inr (16, [.null, .int (zI 0), .null, .int (zI 0)])), (na_1, .inl (dA 7, 11, .inr (.inr (.inr (.inr (fun _ => none))))))] := hD
  refine z_put C hP hD hS 0 rfl rfl in_J21 tyJ21_ok nmJ21 0 (by decide) q1674 rfl (v := .ref (na_1)) rfl rfl (Nat.le_of_ble_eq_true rfl) (ws' := [(a, .inr (16, [.ref (na_1), .int (zI 0), .null, .int (zI 0)])), (na_1, .inl (dA 7, 11, .inr (.inr (.inr (.inr (fun _ => none))))))]) rfl dJ21_init_2_22 (fun H locs hP hD hS => ?_)
  refine lv_aload_n hx hb dJ21_init_2_25 rfl (lv_at hl 0 rfl) ?_
  refine lv_aload_nN hx hb dJ21_init_2_26 rfl (lv_at hl 2 rfl) ?_
  refine z_putF C hP hD hS 0 rfl rfl in_J21 tyJ21_ok nmJ21 2 (by decide) q1676 rfl hin rfl rfl rfl (Nat.le_of_ble_eq_true rfl) (ws' := [(a, .inr (16, [.ref (na_1), .int (zI 0), .null, .int (zI 0)])), (na_1, .inl (dA 7, 11, .inr (.inr (.inr (.inr (fun _ => none))))))]) rfl dJ21_init_2_27 (fun H locs hP hD hS => ?_)
  exact z_vretG C hlk hr hQ (na_1) rfl trivial (hP.sub [0, 1] rfl) (hD.sub [0, 1] (by decide) rfl) hS (Nat.le_of_ble_eq_true rfl) (Nat.le_of_ble_eq_true rfl) dJ21_init_2_30

set_option maxHeartbeats 600000 in
set_option maxRecDepth 100000 in
theorem k_J21_init (l : Launch) (D : va_G) (dA : Nat → ClassId) (a : Nat) : zG (S := Nat) l yJ21_init cJ21_init 1 (none) (zRmW 4 82 1 11) D dA [.ref (a)] [(a, .inr (16, [.null, .int (zI 0), .null, .int (zI 0)]))] (fun u : Nat => none) (fun u : Nat => True) (fun u : Nat => [(a, .inr (16, [.ref (u), .int (zI 0), .null, .int (zI 0)])), (u, .inl (dA 7, 11, .inr (.inr (.inr (.inr (fun _ => none))))))]) := by
  refine zG.of (by decide +kernel) rfl ?_
  intro pp ee ss mm args below meth cd Q A C hr hlk hQ hA hin H locs hP hD hS ls hl
  have hx := C.1.1
  have hb := C.1.2.1
  have hl : lv_has ls 1 [(0, .ref (a))] := hl
  refine lv_aload_n hx hb dJ21_init_0 rfl (lv_at hl 0 rfl) ?_
  refine z_bipush C dJ21_init_1 rfl ?_
  refine lv_null C.1.1 C.1.2.1 dJ21_init_3 ?_
  refine z_gI (n := 2) (As := [.int (zI 11), .null]) (rest := []) (wc := [(a, .inr (16, [.null, .int (zI 0), .null, .int (zI 0)]))]) (wr := []) C hP hD hS hA [0] [] rfl rfl (by decide) (by decide) (by decide) (k_J21_init_2_no l D dA (a)) q1668 q146 q1666 q1667 rfl (by decide +kernel) rfl ⟨Nat.le_of_ble_eq_true rfl, Nat.le_of_ble_eq_true rfl⟩ hl.1 rfl (Nat.le_of_ble_eq_true rfl) dJ21_init_4 (by decide) (by decide) (fun u_4 H locs hp_4 hP hD hS _ => ?_)
  obtain ⟨q9_1, rfl⟩ : ∃ z, z = u_4 := ⟨_, rfl⟩
  have hP := hP.sub (ws' := [(a, .inr (16, [.ref (q9_1), .int (zI 0), .null, .int (zI 0)])), (q9_1, .inl (dA 7, 11, .inr (.inr (.inr (.inr (fun _ => none))))))]) [0, 1] rfl
  have hD := hD.sub (ws' := [(a, .inr (16, [.ref (q9_1), .int (zI 0), .null, .int (zI 0)])), (q9_1, .inl (dA 7, 11, .inr (.inr (.inr (.inr (fun _ => none))))))]) [0, 1] (by decide) rfl
  refine W.widen (k := 1) (n := 11) (Nat.le_of_ble_eq_true rfl) (Nat.le_of_ble_eq_true rfl) ?_
  exact z_vretG C hlk hr hQ (q9_1) rfl trivial (hP.sub [0, 1] rfl) (hD.sub [0, 1] (by decide) rfl) hS (Nat.le_of_ble_eq_true rfl) (Nat.le_of_ble_eq_true rfl) dJ21_init_7
