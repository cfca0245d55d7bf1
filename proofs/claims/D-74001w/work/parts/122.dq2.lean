/-! ArrayDeque: polls, clear, init, addLast with room (printed by tools/s_dq2.py) -/
set_option maxHeartbeats 600000 in
set_option maxRecDepth 100000 in
theorem k_J5_init (l : Launch) (D : va_G) (dA : Nat → ClassId) (a : Nat) : zG (S := Unit) l yJ5_init cJ5_init 1 (none) (zRmW 1 20 0 0) D dA [.ref (a)] [] (fun _ : Unit => none) (fun _ : Unit => True) (fun _ : Unit => []) := by
  refine zG.of (by decide +kernel) rfl ?_
  intro pp ee ss mm args below meth cd Q A C hr hlk hQ hA hin H locs hP hD hS ls hl
  have hx := C.1.1
  have hb := C.1.2.1
  have hl : lv_has ls 1 [(0, .ref (a))] := hl
  refine lv_aload_n hx hb dJ5_init_0 rfl (lv_at hl 0 rfl) ?_
  refine z_obj C q509 hl.1 (Nat.le_of_ble_eq_true rfl) (Nat.le_of_ble_eq_true rfl) dJ5_init_1 ?_
  exact z_vretG C hlk hr hQ () rfl trivial (hP.sub [] rfl) (hD.sub [] (by decide) rfl) hS (Nat.le_of_ble_eq_true rfl) (Nat.le_of_ble_eq_true rfl) dJ5_init_4

set_option maxHeartbeats 600000 in
set_option maxRecDepth 100000 in
theorem k_J6_init (l : Launch) (D : va_G) (dA : Nat → ClassId) (a : Nat) : zG (S := Nat) l yJ6_init cJ6_init 1 (none) (zRmW 2 40 1 17) D dA [.ref (a)] [(a, .inr (15, [.null, .int (zI 0), .int (zI 0)]))] (fun u : Nat => none) (fun u : Nat => True) (fun u : Nat => [(a, .inr (15, [.ref (u), .int (zI 0), .int (zI 0)])), (u, .inl (dA 7, 17, .inr (.inr (.inr (.inr (fun _ => none))))))]) := by
  refine zG.of (by decide +kernel) rfl ?_
  intro pp ee ss mm args below meth cd Q A C hr hlk hQ hA hin H locs hP hD hS ls hl
  have hx := C.1.1
  have hb := C.1.2.1
  have hl : lv_has ls 1 [(0, .ref (a))] := hl
  refine lv_aload_n hx hb dJ6_init_0 rfl (lv_at hl 0 rfl) ?_
  refine z_gI (n := 0) (As := []) (rest := []) (wc := []) (wr := [(a, .inr (15, [.null, .int (zI 0), .int (zI 0)]))]) C hP hD hS hA [] [0] rfl rfl (by decide) (by decide) (by decide) (k_J5_init l D dA (a)) q508 q122 q506 q507 rfl (by decide +kernel) rfl ⟨Nat.le_of_ble_eq_true rfl, Nat.le_of_ble_eq_true rfl⟩ hl.1 rfl (Nat.le_of_ble_eq_true rfl) dJ6_init_1 (by decide) (by decide) (fun _ H locs hp_1 hP hD hS _ => ?_)
  have hP := hP.sub (ws' := [(a, .inr (15, [.null, .int (zI 0), .int (zI 0)]))]) [0] rfl
  have hD := hD.sub (ws' := [(a, .inr (15, [.null, .int (zI 0), .int (zI 0)]))]) [0] (by decide) rfl
  refine W.widen (k := 0) (n := 0) (Nat.le_of_ble_eq_true rfl) (Nat.le_of_ble_eq_true rfl) ?_
  refine lv_aload_n hx hb dJ6_init_4 rfl (lv_at hl 0 rfl) ?_
  refine z_bipush C dJ6_init_5 rfl ?_
  refine z_newq C hP hD hS hA 7 rfl (by decide) q510 (by decide) (17) rfl (Nat.le_of_ble_eq_true rfl) (Nat.le_of_ble_eq_true rfl) (Nat.le_of_ble_eq_true rfl) dJ6_init_7 (fun na_1 H hP hD hS => ?_)
  have hP : va_P D vwCl [(a, .inr (15, [.null, .int (zI 0), .int (zI 0)])), (na_1, .inl (dA 7, 17, .inr (.inr (.inr (.inr (fun _ => none))))))] H := hP
  have hD : va_D A [(a, .inr (15, [.null, .int (zI 0), .int (zI 0)])), (na_1, .inl (dA 7, 17, .inr (.inr (.inr (.inr (fun _ => none))))))] := hD
  refine z_put C hP hD hS 0 rfl rfl in_J6 tyJ6_ok nmJ6 0 (by decide) q512 rfl (v := .ref (na_1)) rfl rfl (Nat.le_of_ble_eq_true rfl) (ws' := [(a, .inr (15, [.ref (na_1), .int (zI 0), .int (zI 0)])), (na_1, .inl (dA 7, 17, .inr (.inr (.inr (.inr (fun _ => none))))))]) rfl dJ6_init_10 (fun H locs hP hD hS => ?_)
  exact z_vretG C hlk hr hQ (na_1) rfl trivial (hP.sub [0, 1] rfl) (hD.sub [0, 1] (by decide) rfl) hS (Nat.le_of_ble_eq_true rfl) (Nat.le_of_ble_eq_true rfl) dJ6_init_13

set_option maxHeartbeats 600000 in
set_option maxRecDepth 100000 in
theorem k_J6_pollFirst (l : Launch) (D : va_G) (dA : Nat → ClassId) (a e k hd tl x : Nat) (f : Nat → Option Nat) (ys : List Nat) (hq : dqOk k hd tl f (x :: ys)) (hk : k ≤ 100000) : zG (S := Unit) l yJ6_pollFirst cJ6_pollFirst 4 (some (.object "java/lang/Object")) (zRmW 1 21 0 0) D dA [.ref (a)] [(a, .inr (15, [.ref (e), .int (zI ((hd : Nat) : Int)), .int (zI ((tl : Nat) : Int))])), (e, .inl (dA 7, k, .inr (.inr (.inr (.inr (f))))))] (fun _ : Unit => some (.ref (x))) (fun _ : Unit => True) (fun _ : Unit => [(a, .inr (15, [.ref (e), .int (zI ((dqInc k hd : Nat) : Int)), .int (zI ((tl : Nat) : Int))])), (e, .inl (dA 7, k, .inr (.inr (.inr (.inr ((va_up f hd none)))))))]) := by
  refine zG.of (by decide +kernel) rfl ?_
  intro pp ee ss mm args below meth cd Q A C hr hlk hQ hA hin H locs hP hD hS ls hl
  have hx := C.1.1
  have hb := C.1.2.1
  have hl : lv_has ls 4 [(0, .ref (a))] := hl
  have hq0 := dq_tl hq
  have hq1 := hq.2.1
  have hq2 := hq.1
  refine lv_aload_n hx hb dJ6_pollFirst_0 rfl (lv_at hl 0 rfl) ?_
  refine z_get C hP 0 rfl rfl in_J6 0 (by decide) q512 rfl dJ6_pollFirst_1 ?_
  refine lv_dup hx hb dJ6_pollFirst_4 rfl ?_
  refine lv_astore_n (lv' := [(1, .ref (e)), (0, .ref (a))]) hx hb dJ6_pollFirst_5 rfl hl (by decide) rfl (fun ls hl => ?_)
  refine lv_aload_n hx hb dJ6_pollFirst_6 rfl (lv_at hl 1 rfl) ?_
  refine z_get C hP 0 rfl rfl in_J6 1 (by decide) q513 rfl dJ6_pollFirst_7 ?_
  refine lv_dup hx hb dJ6_pollFirst_10 rfl ?_
  refine lv_istore_n (lv' := [(2, .int (zI ((hd : Nat) : Int))), (1, .ref (e)), (0, .ref (a))]) hx hb dJ6_pollFirst_11 rfl hl (by decide) rfl (fun ls hl => ?_)
  refine z_cS (n := 2) (As := [.ref (e), .int (zI ((hd : Nat) : Int))]) (rest := []) C (k_J6_elementAt l D dA (e) (k) (hd) (f) (by first | with_reducible assumption | omega | with_reducible rfl) (by first | with_reducible assumption | omega | with_reducible rfl)) (lw_S q846 q847 q123 q848) (by decide +kernel) rfl ⟨Nat.le_of_ble_eq_true rfl, Nat.le_of_ble_eq_true rfl⟩ hl.1 (hP.sub [1] rfl) rfl (Nat.le_of_ble_eq_true rfl) dJ6_pollFirst_12 (Nat.zero_le _) (Nat.zero_le _) ?_
  refine z_ostore_n (lv' := [(3, va_rf (f hd)), (2, .int (zI ((hd : Nat) : Int))), (1, .ref (e)), (0, .ref (a))]) hx hb dJ6_pollFirst_15 rfl hl (by decide) rfl (fun ls hl => ?_)
  refine z_oload_n hx hb dJ6_pollFirst_16 rfl (lv_at hl 0 rfl) ?_
  refine z_ifnull (tgt := 34) C dJ6_pollFirst_17 (by decide) (fun c_17 => ?_) (fun c_17 => ?_)
  · exact absurd c_17 (by rw [dq_fst hq]; simp)
  · refine lv_aload_n hx hb dJ6_pollFirst_20 rfl (lv_at hl 2 rfl) ?_
    refine lv_iload_n hx hb dJ6_pollFirst_21 rfl (lv_at hl 1 rfl) ?_
    refine lv_null C.1.1 C.1.2.1 dJ6_pollFirst_22 ?_
    refine z_aastN C hP hD hS 1 7 rfl rfl (hd) rfl (by omega) (by first | decide | omega) (ws' := [(a, .inr (15, [.ref (e), .int (zI ((hd : Nat) : Int)), .int (zI ((tl : Nat) : Int))])), (e, .inl (dA 7, k, .inr (.inr (.inr (.inr ((va_up f hd none)))))))]) rfl dJ6_pollFirst_23 (fun H locs hP hD hS => ?_)
    refine lv_aload_n hx hb dJ6_pollFirst_24 rfl (lv_at hl 3 rfl) ?_
    refine lv_iload_n hx hb dJ6_pollFirst_25 rfl (lv_at hl 1 rfl) ?_
    refine lv_aload_n hx hb dJ6_pollFirst_26 rfl (lv_at hl 2 rfl) ?_
    refine z_alen C hP 1 7 rfl rfl rfl dJ6_pollFirst_27 ?_
    refine z_cS (n := 2) (As := [.int (zI ((hd : Nat) : Int)), .int (zI ((k : Nat) : Int))]) (rest := [.ref (a)]) C (k_J6_inc l D dA (hd) (k) (by first | with_reducible assumption | omega | with_reducible rfl) (by first | with_reducible assumption | omega | with_reducible rfl)) (lw_S q849 q850 q123 q851) (by decide +kernel) rfl ⟨Nat.le_of_ble_eq_true rfl, Nat.le_of_ble_eq_true rfl⟩ hl.1 (hP.sub [] rfl) rfl (Nat.le_of_ble_eq_true rfl) dJ6_pollFirst_28 (Nat.zero_le _) (Nat.zero_le _) ?_
    refine z_put C hP hD hS 0 rfl rfl in_J6 tyJ6_ok nmJ6 1 (by decide) q513 rfl (v := .int (zI ((dqInc k hd : Nat) : Int))) rfl rfl (Nat.le_of_ble_eq_true rfl) (ws' := [(a, .inr (15, [.ref (e), .int (zI ((dqInc k hd : Nat) : Int)), .int (zI ((tl : Nat) : Int))])), (e, .inl (dA 7, k, .inr (.inr (.inr (.inr ((va_up f hd none)))))))]) rfl dJ6_pollFirst_31 (fun H locs hP hD hS => ?_)
    refine z_oload_n hx hb dJ6_pollFirst_34 rfl (lv_at hl 0 rfl) ?_
    exact z_aretG C hlk hr (Or.inl ⟨_, rfl⟩) hQ (va_rf_or _) () (by rw [dq_fst hq]; rfl) trivial (hP.sub [0, 1] rfl) (hD.sub [0, 1] (by decide) rfl) hS (Nat.le_of_ble_eq_true rfl) (Nat.le_of_ble_eq_true rfl) dJ6_pollFirst_35

set_option maxHeartbeats 600000 in
set_option maxRecDepth 100000 in
theorem k_J6_pollLast (l : Launch) (D : va_G) (dA : Nat → ClassId) (a e k hd tl x : Nat) (f : Nat → Option Nat) (ys : List Nat) (hq : dqOk k hd tl f (ys ++ [x])) (hk : k ≤ 100000) : zG (S := Unit) l yJ6_pollLast cJ6_pollLast 4 (some (.object "java/lang/Object")) (zRmW 1 21 0 0) D dA [.ref (a)] [(a, .inr (15, [.ref (e), .int (zI ((hd : Nat) : Int)), .int (zI ((tl : Nat) : Int))])), (e, .inl (dA 7, k, .inr (.inr (.inr (.inr (f))))))] (fun _ : Unit => some (.ref (x))) (fun _ : Unit => True) (fun _ : Unit => [(a, .inr (15, [.ref (e), .int (zI ((hd : Nat) : Int)), .int (zI ((dqDec k tl : Nat) : Int))])), (e, .inl (dA 7, k, .inr (.inr (.inr (.inr ((va_up f (dqDec k tl) none)))))))]) := by
  refine zG.of (by decide +kernel) rfl ?_
  intro pp ee ss mm args below meth cd Q A C hr hlk hQ hA hin H locs hP hD hS ls hl
  have hx := C.1.1
  have hb := C.1.2.1
  have hl : lv_has ls 4 [(0, .ref (a))] := hl
  have hq0 := dq_tl hq
  have hq1 := hq.2.1
  have hq2 := hq.1
  have hq5 : dqDec k tl < k := by unfold dqDec; split <;> omega
  refine lv_aload_n hx hb dJ6_pollLast_0 rfl (lv_at hl 0 rfl) ?_
  refine z_get C hP 0 rfl rfl in_J6 0 (by decide) q512 rfl dJ6_pollLast_1 ?_
  refine lv_dup hx hb dJ6_pollLast_4 rfl ?_
  refine lv_astore_n (lv' := [(1, .ref (e)), (0, .ref (a))]) hx hb dJ6_pollLast_5 rfl hl (by decide) rfl (fun ls hl => ?_)
  refine lv_aload_n hx hb dJ6_pollLast_6 rfl (lv_at hl 1 rfl) ?_
  refine z_get C hP 0 rfl rfl in_J6 2 (by decide) q514 rfl dJ6_pollLast_7 ?_
  refine lv_aload_n hx hb dJ6_pollLast_10 rfl (lv_at hl 0 rfl) ?_
  refine z_alen C hP 1 7 rfl rfl rfl dJ6_pollLast_11 ?_
  refine z_cS (n := 2) (As := [.int (zI ((tl : Nat) : Int)), .int (zI ((k : Nat) : Int))]) (rest := [.ref (e)]) C (k_J6_dec l D dA (tl) (k) (by first | with_reducible assumption | omega | with_reducible rfl) (by first | with_reducible assumption | omega | with_reducible rfl)) (lw_S q1394 q1395 q123 q1396) (by decide +kernel) rfl ⟨Nat.le_of_ble_eq_true rfl, Nat.le_of_ble_eq_true rfl⟩ hl.1 (hP.sub [] rfl) rfl (Nat.le_of_ble_eq_true rfl) dJ6_pollLast_12 (Nat.zero_le _) (Nat.zero_le _) ?_
  refine lv_dup hx hb dJ6_pollLast_15 rfl ?_
  refine lv_istore_n (lv' := [(2, .int (zI ((dqDec k tl : Nat) : Int))), (1, .ref (e)), (0, .ref (a))]) hx hb dJ6_pollLast_16 rfl hl (by decide) rfl (fun ls hl => ?_)
  refine z_cS (n := 2) (As := [.ref (e), .int (zI ((dqDec k tl : Nat) : Int))]) (rest := []) C (k_J6_elementAt l D dA (e) (k) (dqDec k tl) (f) (by first | with_reducible assumption | omega | with_reducible rfl) (by first | with_reducible assumption | omega | with_reducible rfl)) (lw_S q846 q847 q123 q848) (by decide +kernel) rfl ⟨Nat.le_of_ble_eq_true rfl, Nat.le_of_ble_eq_true rfl⟩ hl.1 (hP.sub [1] rfl) rfl (Nat.le_of_ble_eq_true rfl) dJ6_pollLast_17 (Nat.zero_le _) (Nat.zero_le _) ?_
  refine z_ostore_n (lv' := [(3, va_rf (f (dqDec k tl))), (2, .int (zI ((dqDec k tl : Nat) : Int))), (1, .ref (e)), (0, .ref (a))]) hx hb dJ6_pollLast_20 rfl hl (by decide) rfl (fun ls hl => ?_)
  refine z_oload_n hx hb dJ6_pollLast_21 rfl (lv_at hl 0 rfl) ?_
  refine z_ifnull (tgt := 34) C dJ6_pollLast_22 (by decide) (fun c_22 => ?_) (fun c_22 => ?_)
  · exact absurd c_22 (by rw [dq_lst hq]; simp)
  · refine lv_aload_n hx hb dJ6_pollLast_25 rfl (lv_at hl 2 rfl) ?_
    refine lv_aload_n hx hb dJ6_pollLast_26 rfl (lv_at hl 3 rfl) ?_
    refine lv_iload_n hx hb dJ6_pollLast_27 rfl (lv_at hl 1 rfl) ?_
    refine lv_dup_x1 hx hb dJ6_pollLast_28 rfl rfl ?_
    refine z_put C hP hD hS 0 rfl rfl in_J6 tyJ6_ok nmJ6 2 (by decide) q514 rfl (v := .int (zI ((dqDec k tl : Nat) : Int))) rfl rfl (Nat.le_of_ble_eq_true rfl) (ws' := [(a, .inr (15, [.ref (e), .int (zI ((hd : Nat) : Int)), .int (zI ((dqDec k tl : Nat) : Int))])), (e, .inl (dA 7, k, .inr (.inr (.inr (.inr (f))))))]) rfl dJ6_pollLast_29 (fun H locs hP hD hS => ?_)
    refine lv_null C.1.1 C.1.2.1 dJ6_pollLast_32 ?_
    refine z_aastN C hP hD hS 1 7 rfl rfl (dqDec k tl) rfl (by omega) (by first | decide | omega) (ws' := [(a, .inr (15, [.ref (e), .int (zI ((hd : Nat) : Int)), .int (zI ((dqDec k tl : Nat) : Int))])), (e, .inl (dA 7, k, .inr (.inr (.inr (.inr ((va_up f (dqDec k tl) none)))))))]) rfl dJ6_pollLast_33 (fun H locs hP hD hS => ?_)
    refine z_oload_n hx hb dJ6_pollLast_34 rfl (lv_at hl 0 rfl) ?_
    exact z_aretG C hlk hr (Or.inl ⟨_, rfl⟩) hQ (va_rf_or _) () (by rw [dq_lst hq]; simp; rfl) trivial (hP.sub [0, 1] rfl) (hD.sub [0, 1] (by decide) rfl) hS (Nat.le_of_ble_eq_true rfl) (Nat.le_of_ble_eq_true rfl) dJ6_pollLast_35

set_option maxHeartbeats 600000 in
set_option maxRecDepth 100000 in
theorem k_J6_circularClear (l : Launch) (D : va_G) (dA : Nat → ClassId) (e k hd tl : Nat) (f : Nat → Option Nat) (xs : List Nat) (hq : dqOk k hd tl f xs) (hk : k ≤ 100000) : zG (S := (Nat → Option Nat)) l yJ6_circularClear cJ6_circularClear 4 (none) (zRmW 0 0 0 0) D dA [.ref (e), .int (zI ((hd : Nat) : Int)), .int (zI ((tl : Nat) : Int))] [(e, .inl (dA 7, k, .inr (.inr (.inr (.inr (f))))))] (fun u : (Nat → Option Nat) => none) (fun u : (Nat → Option Nat) => ∀ j, j < k → u j = none) (fun u : (Nat → Option Nat) => [(e, .inl (dA 7, k, .inr (.inr (.inr (.inr (u))))))]) := by
  refine zG.of (by decide +kernel) rfl ?_
  intro pp ee ss mm args below meth cd Q A C hr hlk hQ hA hin H locs hP hD hS ls hl
  have hx := C.1.1
  have hb := C.1.2.1
  have hl : lv_has ls 4 [(0, .ref (e)), (1, .int (zI ((hd : Nat) : Int))), (2, .int (zI ((tl : Nat) : Int)))] := hl
  have hq0 := dq_tl hq
  have hq1 := hq.2.1
  have hq2 := hq.1
  refine lv_iload_n hx hb dJ6_circularClear_0 rfl (lv_at hl 1 rfl) ?_
  refine lv_iload_n hx hb dJ6_circularClear_1 rfl (lv_at hl 2 rfl) ?_
  refine z_icmp_gt (tgt := 9) C ⟨by omega, by omega⟩ ⟨by omega, by omega⟩ dJ6_circularClear_2 (by decide) (fun c_2 => ?_) (fun c_2 => ?_)
  · refine lv_aload_n hx hb dJ6_circularClear_9 rfl (lv_at hl 0 rfl) ?_
    refine z_alen C hP 0 7 rfl rfl rfl dJ6_circularClear_10 ?_
    refine lv_istore_n (lv' := [(3, .int (zI ((k : Nat) : Int))), (0, .ref (e)), (1, .int (zI ((hd : Nat) : Int))), (2, .int (zI ((tl : Nat) : Int)))]) hx hb dJ6_circularClear_11 rfl hl (by decide) rfl (fun ls hl => ?_)
    have L12 : ∀ (N : Nat) (i to ph : Nat) (g : Nat → Option Nat), (to ≤ k) → (i ≤ k) → (ph = 0 ∧ to = tl ∨ ph = k + 1 ∧ to = k ∧ to ≠ tl) → (∀ j, j < k → g j = none ∨ (i ≤ j ∧ j < to) ∨ (to ≠ tl ∧ j < tl)) → (ph + (to - i)) < N → ∀ (H : Heap) (locs : List Loc), va_P D vwCl [(e, .inl (dA 7, k, .inr (.inr (.inr (.inr (g))))))] H → va_D A [(e, .inl (dA 7, k, .inr (.inr (.inr (.inr (g))))))] → va_S A ss.heap H locs → ∀ ls : Array Slot, lv_has ls 4 [(0, .ref (e)), (1, .int (zI ((i : Nat) : Int))), (2, .int (zI ((tl : Nat) : Int))), (3, .int (zI ((to : Nat) : Int)))] → W pp l ee (zRmW 0 0 0 0) ss mm args below meth cd H locs 0 0 Q (F0 mm 12 ls []) := by
      intro N
      induction N with
      | zero => intro i to ph g _ _ _ _ hm; exact absurd hm (Nat.not_lt_zero _)
      | succ N ih12 =>
        intro i to ph g hto hik hp0 hI hmz12 H locs hP hD hS ls hl
        refine lv_iload_n hx hb dJ6_circularClear_12 rfl (lv_at hl 1 rfl) ?_
        refine lv_iload_n hx hb dJ6_circularClear_13 rfl (lv_at hl 3 rfl) ?_
        refine z_icmp_ge (tgt := 27) C ⟨by omega, by omega⟩ ⟨by omega, by omega⟩ dJ6_circularClear_14 (by decide) (fun c_14 => ?_) (fun c_14 => ?_)
        · refine lv_iload_n hx hb dJ6_circularClear_27 rfl (lv_at hl 3 rfl) ?_
          refine lv_iload_n hx hb dJ6_circularClear_28 rfl (lv_at hl 2 rfl) ?_
          refine z_icmp_ne (tgt := 35) C ⟨by omega, by omega⟩ ⟨by omega, by omega⟩ dJ6_circularClear_29 (by decide) (fun c_29 => ?_) (fun c_29 => ?_)
          · refine z_iconst C dJ6_circularClear_35 ?_
            refine lv_istore_n (lv' := [(1, .int (zI 0)), (0, .ref (e)), (2, .int (zI ((tl : Nat) : Int))), (3, .int (zI ((to : Nat) : Int)))]) hx hb dJ6_circularClear_36 rfl hl (by decide) rfl (fun ls hl => ?_)
            refine lv_iload_n hx hb dJ6_circularClear_37 rfl (lv_at hl 2 rfl) ?_
            refine lv_istore_n (lv' := [(3, .int (zI ((tl : Nat) : Int))), (1, .int (zI 0)), (0, .ref (e)), (2, .int (zI ((tl : Nat) : Int)))]) hx hb dJ6_circularClear_38 rfl hl (by decide) rfl (fun ls hl => ?_)
            refine lv_goto (tgt := 12) hx hb dJ6_circularClear_39 (by decide) ?_
            exact ih12 (0) (tl) (0) (g) (by omega) (by omega) (Or.inl ⟨rfl, rfl⟩) (fun j hj => by rcases hI j hj with q | q | q; exact Or.inl q; omega; exact Or.inr (Or.inl ⟨by omega, q.2⟩)) (by omega) H locs hP hD hS ls (lv_sub hl [2, 1, 3, 0] rfl)
          · refine lv_goto (tgt := 42) hx hb dJ6_circularClear_32 (by decide) ?_
            exact z_vretG C hlk hr hQ (g) rfl (fun j hj => by rcases hI j hj with q | q | q; exact q; omega; omega) (hP.sub [0] rfl) (hD.sub [0] (by decide) rfl) hS (Nat.le_of_ble_eq_true rfl) (Nat.le_of_ble_eq_true rfl) dJ6_circularClear_42
        · refine lv_aload_n hx hb dJ6_circularClear_17 rfl (lv_at hl 0 rfl) ?_
          refine lv_iload_n hx hb dJ6_circularClear_18 rfl (lv_at hl 1 rfl) ?_
          refine lv_null C.1.1 C.1.2.1 dJ6_circularClear_19 ?_
          refine z_aastN C hP hD hS 0 7 rfl rfl (i) rfl (by omega) (by first | decide | omega) (ws' := [(e, .inl (dA 7, k, .inr (.inr (.inr (.inr ((va_up g i none)))))))]) rfl dJ6_circularClear_20 (fun H locs hP hD hS => ?_)
          refine lv_iinc (v := zI ((i + 1 : Nat) : Int)) (lv' := [(1, .int (zI ((i + 1 : Nat) : Int))), (0, .ref (e)), (2, .int (zI ((tl : Nat) : Int))), (3, .int (zI ((to : Nat) : Int)))]) hx hb dJ6_circularClear_21 hl (k := 1) rfl (zI_inc (by omega)) (by decide) rfl (fun ls hl => ?_)
          refine lv_goto (tgt := 12) hx hb dJ6_circularClear_24 (by decide) ?_
          exact ih12 (i + 1) (to) (ph) ((va_up g i none)) (by omega) (by omega) hp0 (dq_ccb hI) (by omega) H locs hP hD hS ls (lv_sub hl [1, 0, 2, 3] rfl)
    exact L12 (((k + 1) + (k - hd)) + 1) (hd) (k) (k + 1) (f) (by omega) (by omega) (Or.inr ⟨rfl, rfl, by omega⟩) (fun j hj => by rcases dq_rng hq j hj with q | q; exact Or.inl q; rcases q.2 (by omega) with q | q; exact Or.inr (Or.inl ⟨q, hj⟩); exact Or.inr (Or.inr ⟨by omega, q⟩)) (by omega) H locs hP hD hS ls (lv_sub hl [1, 2, 3, 0] rfl)
  · refine lv_iload_n hx hb dJ6_circularClear_5 rfl (lv_at hl 2 rfl) ?_
    refine lv_goto (tgt := 11) hx hb dJ6_circularClear_6 (by decide) ?_
    refine lv_istore_n (lv' := [(3, .int (zI ((tl : Nat) : Int))), (0, .ref (e)), (1, .int (zI ((hd : Nat) : Int))), (2, .int (zI ((tl : Nat) : Int)))]) hx hb dJ6_circularClear_11 rfl hl (by decide) rfl (fun ls hl => ?_)
    have L12 : ∀ (N : Nat) (i to ph : Nat) (g : Nat → Option Nat), (to ≤ k) → (i ≤ k) → (ph = 0 ∧ to = tl ∨ ph = k + 1 ∧ to = k ∧ to ≠ tl) → (∀ j, j < k → g j = none ∨ (i ≤ j ∧ j < to) ∨ (to ≠ tl ∧ j < tl)) → (ph + (to - i)) < N → ∀ (H : Heap) (locs : List Loc), va_P D vwCl [(e, .inl (dA 7, k, .inr (.inr (.inr (.inr (g))))))] H → va_D A [(e, .inl (dA 7, k, .inr (.inr (.inr (.inr (g))))))] → va_S A ss.heap H locs → ∀ ls : Array Slot, lv_has ls 4 [(0, .ref (e)), (1, .int (zI ((i : Nat) : Int))), (2, .int (zI ((tl : Nat) : Int))), (3, .int (zI ((to : Nat) : Int)))] → W pp l ee (zRmW 0 0 0 0) ss mm args below meth cd H locs 0 0 Q (F0 mm 12 ls []) := by
      intro N
      induction N with
      | zero => intro i to ph g _ _ _ _ hm; exact absurd hm (Nat.not_lt_zero _)
      | succ N ih12 =>
        intro i to ph g hto hik hp0 hI hmz12 H locs hP hD hS ls hl
        refine lv_iload_n hx hb dJ6_circularClear_12 rfl (lv_at hl 1 rfl) ?_
        refine lv_iload_n hx hb dJ6_circularClear_13 rfl (lv_at hl 3 rfl) ?_
        refine z_icmp_ge (tgt := 27) C ⟨by omega, by omega⟩ ⟨by omega, by omega⟩ dJ6_circularClear_14 (by decide) (fun c_14 => ?_) (fun c_14 => ?_)
        · refine lv_iload_n hx hb dJ6_circularClear_27 rfl (lv_at hl 3 rfl) ?_
          refine lv_iload_n hx hb dJ6_circularClear_28 rfl (lv_at hl 2 rfl) ?_
          refine z_icmp_ne (tgt := 35) C ⟨by omega, by omega⟩ ⟨by omega, by omega⟩ dJ6_circularClear_29 (by decide) (fun c_29 => ?_) (fun c_29 => ?_)
          · refine z_iconst C dJ6_circularClear_35 ?_
            refine lv_istore_n (lv' := [(1, .int (zI 0)), (0, .ref (e)), (2, .int (zI ((tl : Nat) : Int))), (3, .int (zI ((to : Nat) : Int)))]) hx hb dJ6_circularClear_36 rfl hl (by decide) rfl (fun ls hl => ?_)
            refine lv_iload_n hx hb dJ6_circularClear_37 rfl (lv_at hl 2 rfl) ?_
            refine lv_istore_n (lv' := [(3, .int (zI ((tl : Nat) : Int))), (1, .int (zI 0)), (0, .ref (e)), (2, .int (zI ((tl : Nat) : Int)))]) hx hb dJ6_circularClear_38 rfl hl (by decide) rfl (fun ls hl => ?_)
            refine lv_goto (tgt := 12) hx hb dJ6_circularClear_39 (by decide) ?_
            exact ih12 (0) (tl) (0) (g) (by omega) (by omega) (Or.inl ⟨rfl, rfl⟩) (fun j hj => by rcases hI j hj with q | q | q; exact Or.inl q; omega; exact Or.inr (Or.inl ⟨by omega, q.2⟩)) (by omega) H locs hP hD hS ls (lv_sub hl [2, 1, 3, 0] rfl)
          · refine lv_goto (tgt := 42) hx hb dJ6_circularClear_32 (by decide) ?_
            exact z_vretG C hlk hr hQ (g) rfl (fun j hj => by rcases hI j hj with q | q | q; exact q; omega; omega) (hP.sub [0] rfl) (hD.sub [0] (by decide) rfl) hS (Nat.le_of_ble_eq_true rfl) (Nat.le_of_ble_eq_true rfl) dJ6_circularClear_42
        · refine lv_aload_n hx hb dJ6_circularClear_17 rfl (lv_at hl 0 rfl) ?_
          refine lv_iload_n hx hb dJ6_circularClear_18 rfl (lv_at hl 1 rfl) ?_
          refine lv_null C.1.1 C.1.2.1 dJ6_circularClear_19 ?_
          refine z_aastN C hP hD hS 0 7 rfl rfl (i) rfl (by omega) (by first | decide | omega) (ws' := [(e, .inl (dA 7, k, .inr (.inr (.inr (.inr ((va_up g i none)))))))]) rfl dJ6_circularClear_20 (fun H locs hP hD hS => ?_)
          refine lv_iinc (v := zI ((i + 1 : Nat) : Int)) (lv' := [(1, .int (zI ((i + 1 : Nat) : Int))), (0, .ref (e)), (2, .int (zI ((tl : Nat) : Int))), (3, .int (zI ((to : Nat) : Int)))]) hx hb dJ6_circularClear_21 hl (k := 1) rfl (zI_inc (by omega)) (by decide) rfl (fun ls hl => ?_)
          refine lv_goto (tgt := 12) hx hb dJ6_circularClear_24 (by decide) ?_
          exact ih12 (i + 1) (to) (ph) ((va_up g i none)) (by omega) (by omega) hp0 (dq_ccb hI) (by omega) H locs hP hD hS ls (lv_sub hl [1, 0, 2, 3] rfl)
    exact L12 ((0 + (tl - hd)) + 1) (hd) (tl) (0) (f) (by omega) (by omega) (Or.inl ⟨rfl, rfl⟩) (fun j hj => by rcases dq_rng hq j hj with q | q; exact Or.inl q; exact Or.inr (Or.inl (q.1 (by omega)))) (by omega) H locs hP hD hS ls (lv_sub hl [1, 2, 3, 0] rfl)

set_option maxHeartbeats 600000 in
set_option maxRecDepth 100000 in
theorem k_J6_clear (l : Launch) (D : va_G) (dA : Nat → ClassId) (a e k hd tl : Nat) (f : Nat → Option Nat) (xs : List Nat) (hq : dqOk k hd tl f xs) (hk : k ≤ 100000) : zG (S := (Nat → Option Nat)) l yJ6_clear cJ6_clear 1 (none) (zRmW 1 23 0 0) D dA [.ref (a)] [(a, .inr (15, [.ref (e), .int (zI ((hd : Nat) : Int)), .int (zI ((tl : Nat) : Int))])), (e, .inl (dA 7, k, .inr (.inr (.inr (.inr (f))))))] (fun u : (Nat → Option Nat) => none) (fun u : (Nat → Option Nat) => dqOk k 0 0 u []) (fun u : (Nat → Option Nat) => [(a, .inr (15, [.ref (e), .int (zI 0), .int (zI 0)])), (e, .inl (dA 7, k, .inr (.inr (.inr (.inr (u))))))]) := by
  refine zG.of (by decide +kernel) rfl ?_
  intro pp ee ss mm args below meth cd Q A C hr hlk hQ hA hin H locs hP hD hS ls hl
  have hx := C.1.1
  have hb := C.1.2.1
  have hl : lv_has ls 1 [(0, .ref (a))] := hl
  have hq0 := dq_tl hq
  have hq1 := hq.2.1
  have hq2 := hq.1
  refine lv_aload_n hx hb dJ6_clear_0 rfl (lv_at hl 0 rfl) ?_
  refine z_get C hP 0 rfl rfl in_J6 0 (by decide) q512 rfl dJ6_clear_1 ?_
  refine lv_aload_n hx hb dJ6_clear_4 rfl (lv_at hl 0 rfl) ?_
  refine z_get C hP 0 rfl rfl in_J6 1 (by decide) q513 rfl dJ6_clear_5 ?_
  refine lv_aload_n hx hb dJ6_clear_8 rfl (lv_at hl 0 rfl) ?_
  refine z_get C hP 0 rfl rfl in_J6 2 (by decide) q514 rfl dJ6_clear_9 ?_
  refine z_gS (n := 3) (As := [.ref (e), .int (zI ((hd : Nat) : Int)), .int (zI ((tl : Nat) : Int))]) (rest := []) (wc := [(e, .inl (dA 7, k, .inr (.inr (.inr (.inr (f))))))]) (wr := [(a, .inr (15, [.ref (e), .int (zI ((hd : Nat) : Int)), .int (zI ((tl : Nat) : Int))]))]) C hP hD hS hA [1] [0] rfl rfl (by decide) (by decide) (by decide) (k_J6_circularClear l D dA (e) (k) (hd) (tl) (f) (xs) (by first | with_reducible assumption | omega | with_reducible rfl) (by first | with_reducible assumption | omega | with_reducible rfl)) (lw_S q813 q814 q123 q815) (by decide +kernel) rfl ⟨Nat.le_of_ble_eq_true rfl, Nat.le_of_ble_eq_true rfl⟩ hl.1 rfl (Nat.le_of_ble_eq_true rfl) dJ6_clear_12 (by decide) (by decide) (fun u_12 H locs hp_12 hP hD hS _ => ?_)
  obtain ⟨f1_1, rfl⟩ : ∃ z, z = u_12 := ⟨_, rfl⟩
  have hP := hP.sub (ws' := [(a, .inr (15, [.ref (e), .int (zI ((hd : Nat) : Int)), .int (zI ((tl : Nat) : Int))])), (e, .inl (dA 7, k, .inr (.inr (.inr (.inr (f1_1))))))]) [0, 1] rfl
  have hD := hD.sub (ws' := [(a, .inr (15, [.ref (e), .int (zI ((hd : Nat) : Int)), .int (zI ((tl : Nat) : Int))])), (e, .inl (dA 7, k, .inr (.inr (.inr (.inr (f1_1))))))]) [0, 1] (by decide) rfl
  have hp_12 : ∀ j, j < k → f1_1 j = none := hp_12
  refine W.widen (k := 0) (n := 0) (Nat.le_of_ble_eq_true rfl) (Nat.le_of_ble_eq_true rfl) ?_
  refine lv_aload_n hx hb dJ6_clear_15 rfl (lv_at hl 0 rfl) ?_
  refine lv_aload_n hx hb dJ6_clear_16 rfl (lv_at hl 0 rfl) ?_
  refine z_iconst C dJ6_clear_17 ?_
  refine lv_dup_x1 hx hb dJ6_clear_18 rfl rfl ?_
  refine z_put C hP hD hS 0 rfl rfl in_J6 tyJ6_ok nmJ6 2 (by decide) q514 rfl (v := .int (zI 0)) rfl rfl (Nat.le_of_ble_eq_true rfl) (ws' := [(a, .inr (15, [.ref (e), .int (zI ((hd : Nat) : Int)), .int (zI 0)])), (e, .inl (dA 7, k, .inr (.inr (.inr (.inr (f1_1))))))]) rfl dJ6_clear_19 (fun H locs hP hD hS => ?_)
  refine z_put C hP hD hS 0 rfl rfl in_J6 tyJ6_ok nmJ6 1 (by decide) q513 rfl (v := .int (zI 0)) rfl rfl (Nat.le_of_ble_eq_true rfl) (ws' := [(a, .inr (15, [.ref (e), .int (zI 0), .int (zI 0)])), (e, .inl (dA 7, k, .inr (.inr (.inr (.inr (f1_1))))))]) rfl dJ6_clear_22 (fun H locs hP hD hS => ?_)
  exact z_vretG C hlk hr hQ (f1_1) rfl (dq_clr hq2 hp_12) (hP.sub [0, 1] rfl) (hD.sub [0, 1] (by decide) rfl) hS (Nat.le_of_ble_eq_true rfl) (Nat.le_of_ble_eq_true rfl) dJ6_clear_25

set_option maxHeartbeats 600000 in
set_option maxRecDepth 100000 in
theorem k_J6_addLast (l : Launch) (D : va_G) (dA : Nat → ClassId) (B : Nat) (en : Nat → Nat → Nat) (a e k hd tl x : Nat) (f : Nat → Option Nat) (xs : List Nat) (Cn : String) (hq : dqOk k hd tl f xs) (hk : k ≤ 100000) (hr9 : xs.length + 1 < k) (hc : (Cn, "java/lang/Object") ∈ zCast) : zH (S := Unit) l yJ6_addLast cJ6_addLast 3 (none) (zRmW 1 21 0 0) B en ([], [(x, Cn)]) D dA [.ref (a), .ref (x)] [(a, .inr (15, [.ref (e), .int (zI ((hd : Nat) : Int)), .int (zI ((tl : Nat) : Int))])), (e, .inl (dA 7, k, .inr (.inr (.inr (.inr (f))))))] (fun _ : Unit => none) (fun _ : Unit => True) (fun _ : Unit => [(a, .inr (15, [.ref (e), .int (zI ((hd : Nat) : Int)), .int (zI ((dqInc k tl : Nat) : Int))])), (e, .inl (dA 7, k, .inr (.inr (.inr (.inr ((va_up f tl (some x))))))))]) := by
  refine zH.of (by decide +kernel) rfl ?_
  intro pp ee ss mm args below meth cd Q A C hr hlk hQ hA hV hin H locs hP hD hS ls hl
  have hx := C.1.1
  have hb := C.1.2.1
  have hl : lv_has ls 3 [(0, .ref (a)), (1, .ref (x))] := hl
  have hq0 := dq_tl hq
  have hq1 := hq.2.1
  have hq2 := hq.1
  have hq6 : dqInc k tl < k := by unfold dqInc; split <;> omega
  have hq7 := (dq_add (e := x) hq hr9).2
  refine lv_aload_n hx hb dJ6_addLast_0 rfl (lv_at hl 1 rfl) ?_
  refine lv_ifnonnull (tgt := 12) hx hb dJ6_addLast_1 (by decide) ?_
  refine lv_aload_n hx hb dJ6_addLast_12 rfl (lv_at hl 0 rfl) ?_
  refine z_get C hP 0 rfl rfl in_J6 0 (by decide) q512 rfl dJ6_addLast_13 ?_
  refine lv_astore_n (lv' := [(2, .ref (e)), (0, .ref (a)), (1, .ref (x))]) hx hb dJ6_addLast_16 rfl hl (by decide) rfl (fun ls hl => ?_)
  refine lv_aload_n hx hb dJ6_addLast_17 rfl (lv_at hl 0 rfl) ?_
  refine lv_aload_n hx hb dJ6_addLast_18 rfl (lv_at hl 1 rfl) ?_
  refine z_get C hP 0 rfl rfl in_J6 2 (by decide) q514 rfl dJ6_addLast_19 ?_
  refine lv_aload_n hx hb dJ6_addLast_22 rfl (lv_at hl 2 rfl) ?_
  refine z_aastO C hP hD hS 1 7 rfl (Cn := Cn) rfl ((hV.fz hS).cell (List.mem_cons_self)) (Or.inl hc) (tl) rfl (by omega) (by first | decide | omega) (ws' := [(a, .inr (15, [.ref (e), .int (zI ((hd : Nat) : Int)), .int (zI ((tl : Nat) : Int))])), (e, .inl (dA 7, k, .inr (.inr (.inr (.inr ((va_up f tl (some x))))))))]) rfl dJ6_addLast_23 (fun H locs hP hD hS => ?_)
  refine lv_aload_n hx hb dJ6_addLast_24 rfl (lv_at hl 1 rfl) ?_
  refine z_get C hP 0 rfl rfl in_J6 1 (by decide) q513 rfl dJ6_addLast_25 ?_
  refine lv_aload_n hx hb dJ6_addLast_28 rfl (lv_at hl 1 rfl) ?_
  refine lv_aload_n hx hb dJ6_addLast_29 rfl (lv_at hl 1 rfl) ?_
  refine z_get C hP 0 rfl rfl in_J6 2 (by decide) q514 rfl dJ6_addLast_30 ?_
  refine lv_aload_n hx hb dJ6_addLast_33 rfl (lv_at hl 0 rfl) ?_
  refine z_alen C hP 1 7 rfl rfl rfl dJ6_addLast_34 ?_
  refine z_cS (n := 2) (As := [.int (zI ((tl : Nat) : Int)), .int (zI ((k : Nat) : Int))]) (rest := [.ref (a), .int (zI ((hd : Nat) : Int))]) C (k_J6_inc l D dA (tl) (k) (by first | with_reducible assumption | omega | with_reducible rfl) (by first | with_reducible assumption | omega | with_reducible rfl)) (lw_S q849 q850 q123 q851) (by decide +kernel) rfl ⟨Nat.le_of_ble_eq_true rfl, Nat.le_of_ble_eq_true rfl⟩ hl.1 (hP.sub [] rfl) rfl (Nat.le_of_ble_eq_true rfl) dJ6_addLast_35 (Nat.zero_le _) (Nat.zero_le _) ?_
  refine lv_dup_x1 hx hb dJ6_addLast_38 rfl rfl ?_
  refine z_put C hP hD hS 0 rfl rfl in_J6 tyJ6_ok nmJ6 2 (by decide) q514 rfl (v := .int (zI ((dqInc k tl : Nat) : Int))) rfl rfl (Nat.le_of_ble_eq_true rfl) (ws' := [(a, .inr (15, [.ref (e), .int (zI ((hd : Nat) : Int)), .int (zI ((dqInc k tl : Nat) : Int))])), (e, .inl (dA 7, k, .inr (.inr (.inr (.inr ((va_up f tl (some x))))))))]) rfl dJ6_addLast_39 (fun H locs hP hD hS => ?_)
  refine z_icmp_ne (tgt := 50) C ⟨by omega, by omega⟩ ⟨by omega, by omega⟩ dJ6_addLast_42 (by decide) (fun c_42 => ?_) (fun c_42 => ?_)
  · exact z_vretG C hlk hr hQ () rfl trivial (hP.sub [0, 1] rfl) (hD.sub [0, 1] (by decide) rfl) hS (Nat.le_of_ble_eq_true rfl) (Nat.le_of_ble_eq_true rfl) dJ6_addLast_50
  · exact absurd (show dqInc k tl = hd by omega) hq7
