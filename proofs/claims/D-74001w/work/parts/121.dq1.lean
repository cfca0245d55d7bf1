/-! ArrayDeque: what reads (printed by tools/s_dq.py) -/
set_option maxHeartbeats 600000 in
set_option maxRecDepth 100000 in
theorem k_J6_inc (l : Launch) (D : va_G) (dA : Nat → ClassId) (i k : Nat) (h1 : i < k) (h2 : k ≤ 100000) : zM l yJ6_inc cJ6_inc 2 (some .int) (zRm 0 0) D dA [.int (zI ((i : Nat) : Int)), .int (zI ((k : Nat) : Int))] [] (some (.int (zI ((dqInc k i : Nat) : Int)))) := by
  refine zM.of (by decide +kernel) rfl ?_
  intro pp ee ss mm args below meth cd Q C hr hlk hQ hP ls hl
  have hx := C.1.1
  have hb := C.1.2.1
  have hl : lv_has ls 2 [(0, .int (zI ((i : Nat) : Int))), (1, .int (zI ((k : Nat) : Int)))] := hl
  refine lv_iinc (v := zI ((i + 1 : Nat) : Int)) (lv' := [(0, .int (zI ((i + 1 : Nat) : Int))), (1, .int (zI ((k : Nat) : Int)))]) hx hb dJ6_inc_0 hl (k := 0) rfl (zI_inc (by omega)) (by decide) rfl (fun ls hl => ?_)
  refine lv_iload_n hx hb dJ6_inc_3 rfl (lv_at hl 0 rfl) ?_
  refine lv_iload_n hx hb dJ6_inc_4 rfl (lv_at hl 1 rfl) ?_
  refine z_icmp_lt (tgt := 10) C ⟨by omega, by omega⟩ ⟨by omega, by omega⟩ dJ6_inc_5 (by decide) (fun c_5 => ?_) (fun c_5 => ?_)
  · refine lv_iload_n hx hb dJ6_inc_10 rfl (lv_at hl 0 rfl) ?_
    exact z_iret C hlk hr hQ (by unfold dqInc; first | (rw [if_pos (by omega)] <;> omega) | (rw [if_neg (by omega)] <;> omega)) dJ6_inc_11
  · refine z_iconst C dJ6_inc_8 ?_
    refine lv_istore_n (lv' := [(0, .int (zI 0)), (1, .int (zI ((k : Nat) : Int)))]) hx hb dJ6_inc_9 rfl hl (by decide) rfl (fun ls hl => ?_)
    refine lv_iload_n hx hb dJ6_inc_10 rfl (lv_at hl 0 rfl) ?_
    exact z_iret C hlk hr hQ (by unfold dqInc; first | (rw [if_pos (by omega)] <;> omega) | (rw [if_neg (by omega)] <;> omega)) dJ6_inc_11

set_option maxHeartbeats 600000 in
set_option maxRecDepth 100000 in
theorem k_J6_dec (l : Launch) (D : va_G) (dA : Nat → ClassId) (i k : Nat) (h1 : i < k) (h2 : k ≤ 100000) : zM l yJ6_dec cJ6_dec 2 (some .int) (zRm 0 0) D dA [.int (zI ((i : Nat) : Int)), .int (zI ((k : Nat) : Int))] [] (some (.int (zI ((dqDec k i : Nat) : Int)))) := by
  refine zM.of (by decide +kernel) rfl ?_
  intro pp ee ss mm args below meth cd Q C hr hlk hQ hP ls hl
  have hx := C.1.1
  have hb := C.1.2.1
  have hl : lv_has ls 2 [(0, .int (zI ((i : Nat) : Int))), (1, .int (zI ((k : Nat) : Int)))] := hl
  refine lv_iinc (v := zI (((i : Nat) : Int) + (-1))) (lv' := [(0, .int (zI (((i : Nat) : Int) + (-1)))), (1, .int (zI ((k : Nat) : Int)))]) hx hb dJ6_dec_0 hl (k := 0) rfl (zI_inc (by omega)) (by decide) rfl (fun ls hl => ?_)
  refine lv_iload_n hx hb dJ6_dec_3 rfl (lv_at hl 0 rfl) ?_
  refine z_if_ge (tgt := 11) C ⟨by omega, by omega⟩ dJ6_dec_4 (by decide) (fun c_4 => ?_) (fun c_4 => ?_)
  · refine lv_iload_n hx hb dJ6_dec_11 rfl (lv_at hl 0 rfl) ?_
    exact z_iret C hlk hr hQ (by unfold dqDec; first | (rw [if_pos (by omega)] <;> omega) | (rw [if_neg (by omega)] <;> omega)) dJ6_dec_12
  · refine lv_iload_n hx hb dJ6_dec_7 rfl (lv_at hl 1 rfl) ?_
    refine z_iconst C dJ6_dec_8 ?_
    refine z_isub C dJ6_dec_9 ?_
    refine lv_istore_n (lv' := [(0, .int (zI (((k : Nat) : Int) - 1))), (1, .int (zI ((k : Nat) : Int)))]) hx hb dJ6_dec_10 rfl hl (by decide) rfl (fun ls hl => ?_)
    refine lv_iload_n hx hb dJ6_dec_11 rfl (lv_at hl 0 rfl) ?_
    exact z_iret C hlk hr hQ (by unfold dqDec; first | (rw [if_pos (by omega)] <;> omega) | (rw [if_neg (by omega)] <;> omega)) dJ6_dec_12

set_option maxHeartbeats 600000 in
set_option maxRecDepth 100000 in
theorem k_J6_sub (l : Launch) (D : va_G) (dA : Nat → ClassId) (i j k : Nat) (h1 : i < k) (h2 : j < k) (h3 : k ≤ 100000) : zM l yJ6_sub cJ6_sub 3 (some .int) (zRm 0 0) D dA [.int (zI ((i : Nat) : Int)), .int (zI ((j : Nat) : Int)), .int (zI ((k : Nat) : Int))] [] (some (.int (zI (if (i : Int) - j < 0 then (i : Int) - j + k else (i : Int) - j)))) := by
  refine zM.of (by decide +kernel) rfl ?_
  intro pp ee ss mm args below meth cd Q C hr hlk hQ hP ls hl
  have hx := C.1.1
  have hb := C.1.2.1
  have hl : lv_has ls 3 [(0, .int (zI ((i : Nat) : Int))), (1, .int (zI ((j : Nat) : Int))), (2, .int (zI ((k : Nat) : Int)))] := hl
  refine lv_iload_n hx hb dJ6_sub_0 rfl (lv_at hl 0 rfl) ?_
  refine lv_iload_n hx hb dJ6_sub_1 rfl (lv_at hl 1 rfl) ?_
  refine z_isub C dJ6_sub_2 ?_
  refine lv_dup hx hb dJ6_sub_3 rfl ?_
  refine lv_istore_n (lv' := [(0, .int (zI (((i : Nat) : Int) - ((j : Nat) : Int)))), (1, .int (zI ((j : Nat) : Int))), (2, .int (zI ((k : Nat) : Int)))]) hx hb dJ6_sub_4 rfl hl (by decide) rfl (fun ls hl => ?_)
  refine z_if_ge (tgt := 12) C ⟨by omega, by omega⟩ dJ6_sub_5 (by decide) (fun c_5 => ?_) (fun c_5 => ?_)
  · refine lv_iload_n hx hb dJ6_sub_12 rfl (lv_at hl 0 rfl) ?_
    exact z_iret C hlk hr hQ (by first | (rw [if_pos (by omega)]) | (rw [if_neg (by omega)])) dJ6_sub_13
  · refine lv_iload_n hx hb dJ6_sub_8 rfl (lv_at hl 0 rfl) ?_
    refine lv_iload_n hx hb dJ6_sub_9 rfl (lv_at hl 2 rfl) ?_
    refine z_iadd C dJ6_sub_10 ?_
    refine lv_istore_n (lv' := [(0, .int (zI ((((i : Nat) : Int) - ((j : Nat) : Int)) + ((k : Nat) : Int)))), (1, .int (zI ((j : Nat) : Int))), (2, .int (zI ((k : Nat) : Int)))]) hx hb dJ6_sub_11 rfl hl (by decide) rfl (fun ls hl => ?_)
    refine lv_iload_n hx hb dJ6_sub_12 rfl (lv_at hl 0 rfl) ?_
    exact z_iret C hlk hr hQ (by first | (rw [if_pos (by omega)]) | (rw [if_neg (by omega)])) dJ6_sub_13

set_option maxHeartbeats 600000 in
set_option maxRecDepth 100000 in
theorem k_J6_elementAt (l : Launch) (D : va_G) (dA : Nat → ClassId) (e k i : Nat) (f : Nat → Option Nat) (h1 : i < k) (h2 : k ≤ 100000) : zM l yJ6_elementAt cJ6_elementAt 2 (some (.object "java/lang/Object")) (zRm 0 0) D dA [.ref (e), .int (zI ((i : Nat) : Int))] [(e, .inl (dA 7, k, .inr (.inr (.inr (.inr (f))))))] (some (va_rf (f i))) := by
  refine zM.of (by decide +kernel) rfl ?_
  intro pp ee ss mm args below meth cd Q C hr hlk hQ hP ls hl
  have hx := C.1.1
  have hb := C.1.2.1
  have hl : lv_has ls 2 [(0, .ref (e)), (1, .int (zI ((i : Nat) : Int)))] := hl
  refine lv_aload_n hx hb dJ6_elementAt_0 rfl (lv_at hl 0 rfl) ?_
  refine lv_iload_n hx hb dJ6_elementAt_1 rfl (lv_at hl 1 rfl) ?_
  refine z_aaldW C hP 0 7 rfl rfl (i) rfl (by omega) (by first | decide | omega) dJ6_elementAt_2 ?_
  exact z_aret C hlk hr (Or.inl ⟨_, rfl⟩) (va_rf_or _) hQ rfl dJ6_elementAt_3

set_option maxHeartbeats 600000 in
set_option maxRecDepth 100000 in
theorem k_J6_size (l : Launch) (D : va_G) (dA : Nat → ClassId) (a e k hd tl : Nat) (f : Nat → Option Nat) (xs : List Nat) (hq : dqOk k hd tl f xs) (hk : k ≤ 100000) : zM l yJ6_size cJ6_size 1 (some .int) (zRm 1 22) D dA [.ref (a)] [(a, .inr (15, [.ref (e), .int (zI ((hd : Nat) : Int)), .int (zI ((tl : Nat) : Int))])), (e, .inl (dA 7, k, .inr (.inr (.inr (.inr (f))))))] (some (.int (zI ((xs.length : Nat) : Int)))) := by
  refine zM.of (by decide +kernel) rfl ?_
  intro pp ee ss mm args below meth cd Q C hr hlk hQ hP ls hl
  have hx := C.1.1
  have hb := C.1.2.1
  have hl : lv_has ls 1 [(0, .ref (a))] := hl
  have hq0 := dq_tl hq
  have hq1 := hq.2.1
  have hq2 := hq.1
  refine lv_aload_n hx hb dJ6_size_0 rfl (lv_at hl 0 rfl) ?_
  refine z_get C hP 0 rfl rfl in_J6 2 (by decide) q514 rfl dJ6_size_1 ?_
  refine lv_aload_n hx hb dJ6_size_4 rfl (lv_at hl 0 rfl) ?_
  refine z_get C hP 0 rfl rfl in_J6 1 (by decide) q513 rfl dJ6_size_5 ?_
  refine lv_aload_n hx hb dJ6_size_8 rfl (lv_at hl 0 rfl) ?_
  refine z_get C hP 0 rfl rfl in_J6 0 (by decide) q512 rfl dJ6_size_9 ?_
  refine z_alen C hP 1 7 rfl rfl rfl dJ6_size_12 ?_
  refine z_cS (n := 3) (As := [.int (zI ((tl : Nat) : Int)), .int (zI ((hd : Nat) : Int)), .int (zI ((k : Nat) : Int))]) (rest := []) C (k_J6_sub l D dA (tl) (hd) (k) (by first | with_reducible assumption | omega | with_reducible rfl) (by first | with_reducible assumption | omega | with_reducible rfl) (by first | with_reducible assumption | omega | with_reducible rfl)) (lw_S q839 q840 q123 q841) (by decide +kernel) rfl ⟨Nat.le_of_ble_eq_true rfl, Nat.le_of_ble_eq_true rfl⟩ hl.1 (hP.sub [] rfl) rfl (Nat.le_of_ble_eq_true rfl) dJ6_size_13 (Nat.zero_le _) (Nat.zero_le _) ?_
  exact z_iret C hlk hr hQ (dq_size hq).symm dJ6_size_16

set_option maxHeartbeats 600000 in
set_option maxRecDepth 100000 in
theorem k_J6_isEmpty (l : Launch) (D : va_G) (dA : Nat → ClassId) (a e k hd tl : Nat) (f : Nat → Option Nat) (xs : List Nat) (hq : dqOk k hd tl f xs) (hk : k ≤ 100000) : zM l yJ6_isEmpty cJ6_isEmpty 1 (some .boolean) (zRm 0 0) D dA [.ref (a)] [(a, .inr (15, [.ref (e), .int (zI ((hd : Nat) : Int)), .int (zI ((tl : Nat) : Int))])), (e, .inl (dA 7, k, .inr (.inr (.inr (.inr (f))))))] (some (.int (zB (xs.isEmpty)))) := by
  refine zM.of (by decide +kernel) rfl ?_
  intro pp ee ss mm args below meth cd Q C hr hlk hQ hP ls hl
  have hx := C.1.1
  have hb := C.1.2.1
  have hl : lv_has ls 1 [(0, .ref (a))] := hl
  have hq0 := dq_tl hq
  have hq1 := hq.2.1
  have hq2 := hq.1
  refine lv_aload_n hx hb dJ6_isEmpty_0 rfl (lv_at hl 0 rfl) ?_
  refine z_get C hP 0 rfl rfl in_J6 1 (by decide) q513 rfl dJ6_isEmpty_1 ?_
  refine lv_aload_n hx hb dJ6_isEmpty_4 rfl (lv_at hl 0 rfl) ?_
  refine z_get C hP 0 rfl rfl in_J6 2 (by decide) q514 rfl dJ6_isEmpty_5 ?_
  refine z_icmp_ne (tgt := 15) C ⟨by omega, by omega⟩ ⟨by omega, by omega⟩ dJ6_isEmpty_8 (by decide) (fun c_8 => ?_) (fun c_8 => ?_)
  · refine z_iconst C dJ6_isEmpty_15 ?_
    exact z_zret0 C hlk hr hQ (by cases xs with | nil => exact absurd ((dq_empty hq).mpr rfl) (by omega) | cons x ys => rfl) dJ6_isEmpty_16
  · refine z_iconst C dJ6_isEmpty_11 ?_
    refine lv_goto (tgt := 16) hx hb dJ6_isEmpty_12 (by decide) ?_
    exact z_zret1 C hlk hr hQ (by rw [(dq_empty hq).mp (by omega)]; rfl) dJ6_isEmpty_16
