/-! PriorityQueue grows (printed by tools/s_pq4.py) -/
/-- how much a queue grows -/
def pqGr (k : Nat) : Nat := if k < 64 then k + 2 else k / 2
theorem pqGr_1 (k : Nat) : 1 ≤ pqGr k ∧ pqGr k ≤ k + 2 := by unfold pqGr; split <;> omega
theorem zFI.ints {fz : zFt} {A : Nat → Prop} {U : State} {H : Heap} (h : zFI fz A U H) : zFI ([], fz.1.map (fun q => (q.1, "java/lang/Integer"))) A U H := by
  refine ⟨fun q hq => absurd hq List.not_mem_nil, fun q hq => ?_⟩
  obtain ⟨z, hz, rfl⟩ := List.mem_map.mp hq
  exact (h.1 z hz).1

set_option maxHeartbeats 600000 in
set_option maxRecDepth 100000 in
theorem k_J16_newLength (l : Launch) (D : va_G) (dA : Nat → ClassId) (k mg pg : Nat) (h1 : k ≤ 40000) (h2 : mg ≤ 40000) (h3 : pg ≤ 40010) (h4 : 1 ≤ mg) : zM l yJ16_newLength cJ16_newLength 4 (some .int) (zRm 1 24) D dA [.int (zI ((k : Nat) : Int)), .int (zI ((mg : Nat) : Int)), .int (zI ((pg : Nat) : Int))] [] (some (.int (zI ((k : Int) + max (mg : Int) (pg : Int))))) := by
  refine zM.of (by decide +kernel) rfl ?_
  intro pp ee ss mm args below meth cd Q C hr hlk hQ hP ls hl
  have hx := C.1.1
  have hb := C.1.2.1
  have hl : lv_has ls 4 [(0, .int (zI ((k : Nat) : Int))), (1, .int (zI ((mg : Nat) : Int))), (2, .int (zI ((pg : Nat) : Int)))] := hl
  refine lv_iload_n hx hb dJ16_newLength_0 rfl (lv_at hl 0 rfl) ?_
  refine lv_iload_n hx hb dJ16_newLength_1 rfl (lv_at hl 1 rfl) ?_
  refine lv_iload_n hx hb dJ16_newLength_2 rfl (lv_at hl 2 rfl) ?_
  refine z_mmax C ⟨by omega, by omega⟩ ⟨by omega, by omega⟩ q1718 hl.1 (Nat.le_of_ble_eq_true rfl) (Nat.le_of_ble_eq_true rfl) (Nat.zero_le _) (Nat.zero_le _) dJ16_newLength_3 ?_
  refine z_iadd C dJ16_newLength_6 ?_
  refine lv_istore_n (lv' := [(3, .int (zI (((k : Nat) : Int) + (if ((mg : Nat) : Int) < ((pg : Nat) : Int) then ((pg : Nat) : Int) else ((mg : Nat) : Int))))), (0, .int (zI ((k : Nat) : Int))), (1, .int (zI ((mg : Nat) : Int))), (2, .int (zI ((pg : Nat) : Int)))]) hx hb dJ16_newLength_7 rfl hl (by decide) rfl (fun ls hl => ?_)
  refine z_iconst C dJ16_newLength_8 ?_
  refine lv_iload_n hx hb dJ16_newLength_9 rfl (lv_at hl 0 rfl) ?_
  refine z_icmp_ge (tgt := 21) C ⟨by decide, by decide⟩ ⟨by omega, by omega⟩ dJ16_newLength_10 (by decide) (fun c_10 => ?_) (fun c_10 => ?_)
  · omega
  · refine lv_iload_n hx hb dJ16_newLength_13 rfl (lv_at hl 0 rfl) ?_
    refine z_ldc C (2147483639) q1719 rfl dJ16_newLength_14 ?_
    refine z_icmp_gt (tgt := 21) C ⟨by omega, by omega⟩ ⟨by decide, by decide⟩ dJ16_newLength_16 (by decide) (fun c_16 => ?_) (fun c_16 => ?_)
    · omega
    · refine lv_iload_n hx hb dJ16_newLength_19 rfl (lv_at hl 0 rfl) ?_
      exact z_iret C hlk hr hQ (by first | rfl | omega) dJ16_newLength_20

set_option maxHeartbeats 600000 in
set_option maxRecDepth 100000 in
theorem k_J21_grow (l : Launch) (D : va_G) (dA : Nat → ClassId) (B : Nat) (en : Nat → Nat → Nat) (a : Nat) (mc : Int) (cv : Value) (e cap : Nat) (f : Nat → Option Nat) (an : List (Nat × String)) (Cn : String) (hk : cap ≤ 40000 ∧ 1 ≤ cap) (hel : ∀ i y, i < cap → f i = some y → (y, Cn) ∈ an) (hc : (Cn, "java/lang/Object") ∈ zCast) : zH (S := Nat) l yJ21_grow cJ21_grow 4 (none) (zRmW 3 70 1 (cap + pqGr cap)) B en ([], an) D dA [.ref (a), .int (zI ((cap + 1 : Nat) : Int))] [(a, .inr (16, [.ref (e), .int (zI ((cap : Nat) : Int)), cv, .int (zI (mc))])), (e, .inl (dA 7, cap, .inr (.inr (.inr (.inr (f))))))] (fun u : Nat => none) (fun u : Nat => True) (fun u : Nat => [(a, .inr (16, [.ref (u), .int (zI ((cap : Nat) : Int)), cv, .int (zI (mc))])), (u, .inl (dA 7, cap + pqGr cap, .inr (.inr (.inr (.inr ((va_cpy f (fun _ => none) 0 0 cap)))))))]) := by
  refine zH.of (by decide +kernel) rfl ?_
  intro pp ee ss mm args below meth cd Q A C hr hlk hQ hA hV hin H locs hP hD hS ls hl
  have hx := C.1.1
  have hb := C.1.2.1
  have hl : lv_has ls 4 [(0, .ref (a)), (1, .int (zI ((cap + 1 : Nat) : Int)))] := hl
  have hgr := pqGr_1 cap
  refine lv_aload_n hx hb dJ21_grow_0 rfl (lv_at hl 0 rfl) ?_
  refine z_get C hP 0 rfl rfl in_J21 0 (by decide) q1674 rfl dJ21_grow_1 ?_
  refine z_alen C hP 1 7 rfl rfl rfl dJ21_grow_4 ?_
  refine lv_istore_n (lv' := [(2, .int (zI ((cap : Nat) : Int))), (0, .ref (a)), (1, .int (zI ((cap + 1 : Nat) : Int)))]) hx hb dJ21_grow_5 rfl hl (by decide) rfl (fun ls hl => ?_)
  have J25 : ∀ (pg : Nat), (pg = pqGr cap) → ∀ (H : Heap) (locs : List Loc), va_P D vwCl [(a, .inr (16, [.ref (e), .int (zI ((cap : Nat) : Int)), cv, .int (zI (mc))])), (e, .inl (dA 7, cap, .inr (.inr (.inr (.inr (f))))))] H → va_D A [(a, .inr (16, [.ref (e), .int (zI ((cap : Nat) : Int)), cv, .int (zI (mc))])), (e, .inl (dA 7, cap, .inr (.inr (.inr (.inr (f))))))] → va_S A ss.heap H locs → ∀ ls : Array Slot, lv_has ls 4 [(2, .int (zI ((cap : Nat) : Int))), (0, .ref (a)), (1, .int (zI ((cap + 1 : Nat) : Int)))] → W pp l ee (zRmW 3 70 1 (cap + pqGr cap)) ss mm args below meth cd H locs 0 0 Q (F0 mm 25 ls [.int (zI ((pg : Nat) : Int)), .int (zI ((1 : Nat) : Int)), .int (zI ((cap : Nat) : Int))]) := by
    intro pg hpg H locs hP hD hS ls hl
    refine z_cS (n := 3) (As := [.int (zI ((cap : Nat) : Int)), .int (zI ((1 : Nat) : Int)), .int (zI ((pg : Nat) : Int))]) (rest := []) C (k_J16_newLength l D dA (cap) (1) (pg) (by first | with_reducible assumption | omega | with_reducible rfl) (by first | with_reducible assumption | omega | with_reducible rfl) (by first | with_reducible assumption | omega | with_reducible rfl) (by first | with_reducible assumption | omega | with_reducible rfl)) (lw_S q1715 q1716 q137 q1717) (by decide +kernel) rfl ⟨Nat.le_of_ble_eq_true rfl, Nat.le_of_ble_eq_true rfl⟩ hl.1 (hP.sub [] rfl) rfl (Nat.le_of_ble_eq_true rfl) dJ21_grow_25 (Nat.zero_le _) (Nat.zero_le _) ?_
    rw [show (cap : Int) + max ((1 : Nat) : Int) (pg : Int) = ((cap + pqGr cap : Nat) : Int) by rw [hpg]; omega]
    refine lv_istore_n (lv' := [(3, .int (zI (((cap + pqGr cap) : Nat) : Int))), (2, .int (zI ((cap : Nat) : Int))), (0, .ref (a)), (1, .int (zI ((cap + 1 : Nat) : Int)))]) hx hb dJ21_grow_28 rfl hl (by decide) rfl (fun ls hl => ?_)
    refine lv_aload_n hx hb dJ21_grow_29 rfl (lv_at hl 2 rfl) ?_
    refine lv_aload_n hx hb dJ21_grow_30 rfl (lv_at hl 2 rfl) ?_
    refine z_get C hP 0 rfl rfl in_J21 0 (by decide) q1674 rfl dJ21_grow_31 ?_
    refine lv_iload_n hx hb dJ21_grow_34 rfl (lv_at hl 0 rfl) ?_
    refine z_hS (n := 2) (As := [.ref (e), .int (zI (((cap + pqGr cap) : Nat) : Int))]) (rest := [.ref (a)]) (wc := [(e, .inl (dA 7, cap, .inr (.inr (.inr (.inr (f))))))]) (wr := [(a, .inr (16, [.ref (e), .int (zI ((cap : Nat) : Int)), cv, .int (zI (mc))]))]) C hV hP hD hS hA [1] [0] rfl rfl (by decide) (by decide) (by decide) (k_J11_copyOf l D dA B en (e) (cap) ((cap + pqGr cap)) (f) (an) (Cn) (by first | with_reducible assumption | omega | with_reducible rfl) (by first | with_reducible assumption | omega | with_reducible rfl) (by first | with_reducible assumption | omega | with_reducible rfl) (by first | with_reducible assumption | omega | with_reducible rfl)) ((hV.fz hS).narrow (va_free hD hS hA [1] rfl)) (lw_S q1723 q867 q130 q868) (by decide +kernel) rfl ⟨Nat.le_of_ble_eq_true rfl, Nat.le_of_ble_eq_true rfl⟩ hl.1 rfl (Nat.le_of_ble_eq_true rfl) dJ21_grow_35 (by dsimp only; omega) (by dsimp only; omega) (fun u_35 H locs hp_35 hP hD hS _ => ?_)
    obtain ⟨q9_1, rfl⟩ : ∃ z, z = u_35 := ⟨_, rfl⟩
    have hP := hP.sub (ws' := [(a, .inr (16, [.ref (e), .int (zI ((cap : Nat) : Int)), cv, .int (zI (mc))])), (e, .inl (dA 7, cap, .inr (.inr (.inr (.inr (f)))))), (q9_1, .inl (dA 7, ((cap + pqGr cap)), .inr (.inr (.inr (.inr ((va_cpy f (fun _ => none) 0 0 cap)))))))]) [0, 1, 2] rfl
    have hD := hD.sub (ws' := [(a, .inr (16, [.ref (e), .int (zI ((cap : Nat) : Int)), cv, .int (zI (mc))])), (e, .inl (dA 7, cap, .inr (.inr (.inr (.inr (f)))))), (q9_1, .inl (dA 7, ((cap + pqGr cap)), .inr (.inr (.inr (.inr ((va_cpy f (fun _ => none) 0 0 cap)))))))]) [0, 1, 2] (by decide) rfl
    refine W.widen (k := 1) (n := 0 + ((cap + pqGr cap))) (by dsimp only; omega) (by dsimp only; omega) ?_
    refine z_put C hP hD hS 0 rfl rfl in_J21 tyJ21_ok nmJ21 0 (by decide) q1674 rfl (v := .ref (q9_1)) rfl rfl (Nat.le_of_ble_eq_true rfl) (ws' := [(a, .inr (16, [.ref (q9_1), .int (zI ((cap : Nat) : Int)), cv, .int (zI (mc))])), (e, .inl (dA 7, cap, .inr (.inr (.inr (.inr (f)))))), (q9_1, .inl (dA 7, ((cap + pqGr cap)), .inr (.inr (.inr (.inr ((va_cpy f (fun _ => none) 0 0 cap)))))))]) rfl dJ21_grow_38 (fun H locs hP hD hS => ?_)
    exact z_vretG C hlk hr hQ (q9_1) rfl trivial (hP.sub [0, 2] rfl) (hD.sub [0, 2] (by decide) rfl) hS (by dsimp only; omega) (by dsimp only; omega) dJ21_grow_41
  refine lv_iload_n hx hb dJ21_grow_6 rfl (lv_at hl 0 rfl) ?_
  refine lv_iload_n hx hb dJ21_grow_7 rfl (lv_at hl 2 rfl) ?_
  refine lv_iload_n hx hb dJ21_grow_8 rfl (lv_at hl 0 rfl) ?_
  refine z_isubN C (cap + 1) (cap) rfl rfl (by omega) dJ21_grow_9 ?_
  rw [show cap + 1 - cap = 1 by omega]
  refine lv_iload_n hx hb dJ21_grow_10 rfl (lv_at hl 0 rfl) ?_
  refine z_bipush C dJ21_grow_11 rfl ?_
  refine z_icmp_ge (tgt := 22) C ⟨by omega, by omega⟩ ⟨by decide, by decide⟩ dJ21_grow_13 (by decide) (fun c_13 => ?_) (fun c_13 => ?_)
  · refine lv_iload_n hx hb dJ21_grow_22 rfl (lv_at hl 0 rfl) ?_
    refine z_iconst C dJ21_grow_23 ?_
    refine z_ishrN C (cap) (1) rfl rfl (by omega) (by omega) dJ21_grow_24 ?_
    exact J25 ((cap >>> 1)) (by unfold pqGr; first | (rw [if_pos (by omega)]; done) | (rw [if_neg (by omega)]; first | (exact Nat.shiftRight_one cap) | omega | rfl)) H locs hP hD hS ls (lv_sub hl [0, 1, 2] rfl)
  · refine lv_iload_n hx hb dJ21_grow_16 rfl (lv_at hl 0 rfl) ?_
    refine z_iconst C dJ21_grow_17 ?_
    refine z_iaddN C (cap) (2) rfl rfl dJ21_grow_18 ?_
    refine lv_goto (tgt := 25) hx hb dJ21_grow_19 (by decide) ?_
    exact J25 ((cap + 2)) (by unfold pqGr; first | (rw [if_pos (by omega)]; done) | (rw [if_neg (by omega)]; first | (exact Nat.shiftRight_one cap) | omega | rfl)) H locs hP hD hS ls (lv_sub hl [0, 1, 2] rfl)

theorem pqF_cpy {f : Nat → Option Nat} {gg : Nat → Nat} {n : Nat} (h : pqF f gg n) : pqF (va_cpy f (fun _ => none) 0 0 n) gg n := by
  intro i hi
  rw [pk_cpy_in (by omega) (by omega)]
  simpa using h i hi
theorem pqN_cpy {f : Nat → Option Nat} {n : Nat} : pqN (va_cpy f (fun _ => none) 0 0 n) n := by
  intro i hi
  rw [pk_cpy_out (by omega)]

set_option maxHeartbeats 600000 in
set_option maxRecDepth 100000 in
theorem k_J21_offer_grow (l : Launch) (D : va_G) (dA : Nat → ClassId) (B : Nat) (en : Nat → Nat → Nat) (a : Nat) (mc : Int) (fz : zFt) (e cap cq x : Nat) (f : Nat → Option Nat) (gg : Nat → Nat) (V : Nat → Nat) (S9 : Nat → Prop) (hcap : 1 ≤ cap ∧ cap ≤ 40000) (hV9 : ∀ y, (y = x ∨ S9 y) → (y, (V y : Int)) ∈ fz.1 ∧ 0 < V y ∧ V y < 65536) (hc9 : (cq, "SpinStrip$Greater") ∈ fz.2) (hf : pqF f gg cap) (ho9 : hpO (fun y => grK (V y)) gg cap) (hs9 : hpS gg cap S9) (hx9 : ¬ S9 x) : zH (S := Nat × (Nat → Option Nat) × (Nat → Nat)) l yJ21_offer cJ21_offer 3 (some .boolean) (zRmW 6 133 1 (cap + pqGr cap)) B en fz D dA [.ref (a), .ref (x)] [(a, .inr (16, [.ref (e), .int (zI ((cap : Nat) : Int)), .ref (cq), .int (zI (mc))])), (e, .inl (dA 7, cap, .inr (.inr (.inr (.inr (f))))))] (fun u : Nat × (Nat → Option Nat) × (Nat → Nat) => some (.int (zB (true)))) (fun u : Nat × (Nat → Option Nat) × (Nat → Nat) => pqF u.2.1 u.2.2 (cap + 1) ∧ hpO (fun y => grK (V y)) u.2.2 (cap + 1) ∧ hpS u.2.2 (cap + 1) (fun y => y = x ∨ S9 y) ∧ pqN u.2.1 (cap + 1)) (fun u : Nat × (Nat → Option Nat) × (Nat → Nat) => [(a, .inr (16, [.ref (u.1), .int (zI ((cap + 1 : Nat) : Int)), .ref (cq), .int (zI (mc + 1))])), (u.1, .inl (dA 7, cap + pqGr cap, .inr (.inr (.inr (.inr (u.2.1))))))]) := by
  refine zH.of (by decide +kernel) rfl ?_
  intro pp ee ss mm args below meth cd Q A C hr hlk hQ hA hV hin H locs hP hD hS ls hl
  have hx := C.1.1
  have hb := C.1.2.1
  have hl : lv_has ls 3 [(0, .ref (a)), (1, .ref (x))] := hl
  have hgr := pqGr_1 cap
  refine lv_aload_n hx hb dJ21_offer_0 rfl (lv_at hl 1 rfl) ?_
  refine lv_ifnonnull (tgt := 12) hx hb dJ21_offer_1 (by decide) ?_
  refine lv_aload_n hx hb dJ21_offer_12 rfl (lv_at hl 0 rfl) ?_
  refine lv_dup hx hb dJ21_offer_13 rfl ?_
  refine z_get C hP 0 rfl rfl in_J21 3 (by decide) q1677 rfl dJ21_offer_14 ?_
  refine z_iconst C dJ21_offer_17 ?_
  refine z_iadd C dJ21_offer_18 ?_
  refine z_put C hP hD hS 0 rfl rfl in_J21 tyJ21_ok nmJ21 3 (by decide) q1677 rfl (v := .int (zI ((mc) + 1))) rfl rfl (Nat.le_of_ble_eq_true rfl) (ws' := [(a, .inr (16, [.ref (e), .int (zI ((cap : Nat) : Int)), .ref (cq), .int (zI ((mc) + 1))])), (e, .inl (dA 7, cap, .inr (.inr (.inr (.inr (f))))))]) rfl dJ21_offer_19 (fun H locs hP hD hS => ?_)
  refine lv_aload_n hx hb dJ21_offer_22 rfl (lv_at hl 0 rfl) ?_
  refine z_get C hP 0 rfl rfl in_J21 1 (by decide) q1675 rfl dJ21_offer_23 ?_
  refine lv_istore_n (lv' := [(2, .int (zI ((cap : Nat) : Int))), (0, .ref (a)), (1, .ref (x))]) hx hb dJ21_offer_26 rfl hl (by decide) rfl (fun ls hl => ?_)
  refine lv_iload_n hx hb dJ21_offer_27 rfl (lv_at hl 0 rfl) ?_
  refine lv_aload_n hx hb dJ21_offer_28 rfl (lv_at hl 1 rfl) ?_
  refine z_get C hP 0 rfl rfl in_J21 0 (by decide) q1674 rfl dJ21_offer_29 ?_
  refine z_alen C hP 1 7 rfl rfl rfl dJ21_offer_32 ?_
  refine z_icmp_lt (tgt := 43) C ⟨by omega, by omega⟩ ⟨by omega, by omega⟩ dJ21_offer_33 (by decide) (fun c_33 => ?_) (fun c_33 => ?_)
  · omega
  · refine lv_aload_n hx hb dJ21_offer_36 rfl (lv_at hl 1 rfl) ?_
    refine lv_iload_n hx hb dJ21_offer_37 rfl (lv_at hl 0 rfl) ?_
    refine z_iconst C dJ21_offer_38 ?_
    refine z_iaddN C (cap) (1) rfl rfl dJ21_offer_39 ?_
    refine z_hV (n := 1) (As := [.int (zI (((cap + 1) : Nat) : Int))]) (rest := []) (wc := [(a, .inr (16, [.ref (e), .int (zI ((cap : Nat) : Int)), .ref (cq), .int (zI ((mc) + 1))])), (e, .inl (dA 7, cap, .inr (.inr (.inr (.inr (f))))))]) (wr := []) C hV hP hD hS hA [0, 1] [] rfl rfl (by decide) (by decide) (by decide) (k_J21_grow l D dA B en (a) ((mc) + 1) ((.ref cq)) (e) (cap) (f) ((fz.1.map (fun q => (q.1, "java/lang/Integer")))) ("java/lang/Integer") (by first | with_reducible assumption | omega | with_reducible rfl) (fun i y hi hy => List.mem_map.mpr ⟨(y, (V y : Int)), (hV9 y (Or.inr (by have e9 := hf i hi; rw [hy] at e9; cases e9; exact hs9.1 i hi))).1, rfl⟩) (by decide)) (zFI.ints ((hV.fz hS).narrow (va_free hD hS hA [0, 1] rfl))) (lw_V q1711 q1713 qs55 q146 q1714) (by decide +kernel) rfl ⟨Nat.le_of_ble_eq_true rfl, Nat.le_of_ble_eq_true rfl⟩ hl.1 0 rfl rfl rfl (Nat.le_of_ble_eq_true rfl) dJ21_offer_40 (by dsimp only; omega) (by dsimp only; omega) (fun u_40 H locs hp_40 hP hD hS _ => ?_)
    obtain ⟨q9_1, rfl⟩ : ∃ z, z = u_40 := ⟨_, rfl⟩
    have hP := hP.sub (ws' := [(a, .inr (16, [.ref (q9_1), .int (zI ((cap : Nat) : Int)), .ref (cq), .int (zI (((mc) + 1)))])), (q9_1, .inl (dA 7, cap + pqGr cap, .inr (.inr (.inr (.inr ((va_cpy f (fun _ => none) 0 0 cap)))))))]) [0, 1] rfl
    have hD := hD.sub (ws' := [(a, .inr (16, [.ref (q9_1), .int (zI ((cap : Nat) : Int)), .ref (cq), .int (zI (((mc) + 1)))])), (q9_1, .inl (dA 7, cap + pqGr cap, .inr (.inr (.inr (.inr ((va_cpy f (fun _ => none) 0 0 cap)))))))]) [0, 1] (by decide) rfl
    refine W.widen (k := 1) (n := 0 + (cap + pqGr cap)) (by dsimp only; omega) (by dsimp only; omega) ?_
    refine lv_aload_n hx hb dJ21_offer_43 rfl (lv_at hl 1 rfl) ?_
    refine lv_iload_n hx hb dJ21_offer_44 rfl (lv_at hl 0 rfl) ?_
    refine lv_aload_n hx hb dJ21_offer_45 rfl (lv_at hl 2 rfl) ?_
    refine z_hV (n := 2) (As := [.int (zI ((cap : Nat) : Int)), .ref (x)]) (rest := []) (wc := [(a, .inr (16, [.ref (q9_1), .int (zI ((cap : Nat) : Int)), .ref (cq), .int (zI (((mc) + 1)))])), (q9_1, .inl (dA 7, cap + pqGr cap, .inr (.inr (.inr (.inr ((va_cpy f (fun _ => none) 0 0 cap)))))))]) (wr := []) C hV hP hD hS hA [0, 1] [] rfl rfl (by decide) (by decide) (by decide) (k_J21_siftUp l D dA B en (a) (((mc) + 1)) (fz) (q9_1) (cap + pqGr cap) (cap) (cq) (x) ((va_cpy f (fun _ => none) 0 0 cap)) (gg) (V) (S9) (by first | with_reducible assumption | omega | with_reducible rfl) (by first | with_reducible assumption | omega | with_reducible rfl) (by first | with_reducible assumption | omega | with_reducible rfl) (pqF_cpy hf) (by first | with_reducible assumption | omega | with_reducible rfl) (by first | with_reducible assumption | omega | with_reducible rfl) (by first | with_reducible assumption | omega | with_reducible rfl)) ((hV.fz hS).narrow (va_free hD hS hA [0, 1] rfl)) (lw_V q1724 q1726 qs56 q146 q1727) (by decide +kernel) rfl ⟨Nat.le_of_ble_eq_true rfl, Nat.le_of_ble_eq_true rfl⟩ hl.1 0 rfl rfl rfl (Nat.le_of_ble_eq_true rfl) dJ21_offer_46 (by dsimp only; omega) (by dsimp only; omega) (fun u_46 H locs hp_46 hP hD hS _ => ?_)
    obtain ⟨f1_2, g1_3⟩ := u_46
    have hP := hP.sub (ws' := [(a, .inr (16, [.ref (q9_1), .int (zI ((cap : Nat) : Int)), .ref (cq), .int (zI ((((mc) + 1))))])), (q9_1, .inl (dA 7, (cap + pqGr cap), .inr (.inr (.inr (.inr (f1_2))))))]) [0, 1] rfl
    have hD := hD.sub (ws' := [(a, .inr (16, [.ref (q9_1), .int (zI ((cap : Nat) : Int)), .ref (cq), .int (zI ((((mc) + 1))))])), (q9_1, .inl (dA 7, (cap + pqGr cap), .inr (.inr (.inr (.inr (f1_2))))))]) [0, 1] (by decide) rfl
    have hp_46 : pqF f1_2 g1_3 (cap + 1) ∧ hpO (fun y => grK (V y)) g1_3 (cap + 1) ∧ hpS g1_3 (cap + 1) (fun y => y = x ∨ S9 y) ∧ ∀ i, cap + 1 ≤ i → f1_2 i = ((va_cpy f (fun _ => none) 0 0 cap)) i := hp_46
    refine W.widen (k := 1) (n := 0 + (cap + pqGr cap)) (by dsimp only; omega) (by dsimp only; omega) ?_
    refine lv_aload_n hx hb dJ21_offer_49 rfl (lv_at hl 1 rfl) ?_
    refine lv_iload_n hx hb dJ21_offer_50 rfl (lv_at hl 0 rfl) ?_
    refine z_iconst C dJ21_offer_51 ?_
    refine z_iaddN C (cap) (1) rfl rfl dJ21_offer_52 ?_
    refine z_put C hP hD hS 0 rfl rfl in_J21 tyJ21_ok nmJ21 1 (by decide) q1675 rfl (v := .int (zI (((cap + 1) : Nat) : Int))) rfl rfl (Nat.le_of_ble_eq_true rfl) (ws' := [(a, .inr (16, [.ref (q9_1), .int (zI (((cap + 1) : Nat) : Int)), .ref (cq), .int (zI ((((mc) + 1))))])), (q9_1, .inl (dA 7, (cap + pqGr cap), .inr (.inr (.inr (.inr (f1_2))))))]) rfl dJ21_offer_53 (fun H locs hP hD hS => ?_)
    refine z_iconst C dJ21_offer_56 ?_
    exact z_zretG (a := true) C hlk hr hQ ⟨q9_1, f1_2, g1_3⟩ rfl ⟨hp_46.1, hp_46.2.1, hp_46.2.2.1, (fun i hi => (hp_46.2.2.2 i hi).trans (pqN_cpy i (by omega)))⟩ (hP.sub [0, 1] rfl) (hD.sub [0, 1] (by decide) rfl) hS (by dsimp only; omega) (by dsimp only; omega) dJ21_offer_57

set_option maxHeartbeats 600000 in
set_option maxRecDepth 100000 in
theorem k_J21_add_grow (l : Launch) (D : va_G) (dA : Nat → ClassId) (B : Nat) (en : Nat → Nat → Nat) (a : Nat) (mc : Int) (fz : zFt) (e cap cq x : Nat) (f : Nat → Option Nat) (gg : Nat → Nat) (V : Nat → Nat) (S9 : Nat → Prop) (hcap : 1 ≤ cap ∧ cap ≤ 40000) (hV9 : ∀ y, (y = x ∨ S9 y) → (y, (V y : Int)) ∈ fz.1 ∧ 0 < V y ∧ V y < 65536) (hc9 : (cq, "SpinStrip$Greater") ∈ fz.2) (hf : pqF f gg cap) (ho9 : hpO (fun y => grK (V y)) gg cap) (hs9 : hpS gg cap S9) (hx9 : ¬ S9 x) : zH (S := Nat × (Nat → Option Nat) × (Nat → Nat)) l yJ21_add cJ21_add 2 (some .boolean) (zRmW 7 155 1 (cap + pqGr cap)) B en fz D dA [.ref (a), .ref (x)] [(a, .inr (16, [.ref (e), .int (zI ((cap : Nat) : Int)), .ref (cq), .int (zI (mc))])), (e, .inl (dA 7, cap, .inr (.inr (.inr (.inr (f))))))] (fun u : Nat × (Nat → Option Nat) × (Nat → Nat) => some (.int (zB (true)))) (fun u : Nat × (Nat → Option Nat) × (Nat → Nat) => pqF u.2.1 u.2.2 (cap + 1) ∧ hpO (fun y => grK (V y)) u.2.2 (cap + 1) ∧ hpS u.2.2 (cap + 1) (fun y => y = x ∨ S9 y) ∧ pqN u.2.1 (cap + 1)) (fun u : Nat × (Nat → Option Nat) × (Nat → Nat) => [(a, .inr (16, [.ref (u.1), .int (zI ((cap + 1 : Nat) : Int)), .ref (cq), .int (zI (mc + 1))])), (u.1, .inl (dA 7, cap + pqGr cap, .inr (.inr (.inr (.inr (u.2.1))))))]) := by
  refine zH.of (by decide +kernel) rfl ?_
  intro pp ee ss mm args below meth cd Q A C hr hlk hQ hA hV hin H locs hP hD hS ls hl
  have hx := C.1.1
  have hb := C.1.2.1
  have hl : lv_has ls 2 [(0, .ref (a)), (1, .ref (x))] := hl
  refine lv_aload_n hx hb dJ21_add_0 rfl (lv_at hl 0 rfl) ?_
  refine lv_aload_n hx hb dJ21_add_1 rfl (lv_at hl 1 rfl) ?_
  refine z_hV (n := 1) (As := [.ref (x)]) (rest := []) (wc := [(a, .inr (16, [.ref (e), .int (zI ((cap : Nat) : Int)), .ref (cq), .int (zI (mc))])), (e, .inl (dA 7, cap, .inr (.inr (.inr (.inr (f))))))]) (wr := []) C hV hP hD hS hA [0, 1] [] rfl rfl (by decide) (by decide) (by decide) (k_J21_offer_grow l D dA B en (a) (mc) (fz) (e) (cap) (cq) (x) (f) (gg) (V) (S9) (by first | with_reducible assumption | omega | with_reducible rfl) (by first | with_reducible assumption | omega | with_reducible rfl) (by first | with_reducible assumption | omega | with_reducible rfl) (by first | with_reducible assumption | omega | with_reducible rfl) (by first | with_reducible assumption | omega | with_reducible rfl) (by first | with_reducible assumption | omega | with_reducible rfl) (by first | with_reducible assumption | omega | with_reducible rfl)) ((hV.fz hS).narrow (va_free hD hS hA [0, 1] rfl)) (lw_V q1707 q1708 q1709 q146 q1710) (by decide +kernel) rfl ⟨Nat.le_of_ble_eq_true rfl, Nat.le_of_ble_eq_true rfl⟩ hl.1 0 rfl rfl rfl (Nat.le_of_ble_eq_true rfl) dJ21_add_2 (by dsimp only; omega) (by dsimp only; omega) (fun u_2 H locs hp_2 hP hD hS _ => ?_)
  obtain ⟨q9_1, f1_2, g1_3⟩ := u_2
  have hP := hP.sub (ws' := [(a, .inr (16, [.ref (q9_1), .int (zI ((cap + 1 : Nat) : Int)), .ref (cq), .int (zI (mc + 1))])), (q9_1, .inl (dA 7, cap + pqGr cap, .inr (.inr (.inr (.inr (f1_2))))))]) [0, 1] rfl
  have hD := hD.sub (ws' := [(a, .inr (16, [.ref (q9_1), .int (zI ((cap + 1 : Nat) : Int)), .ref (cq), .int (zI (mc + 1))])), (q9_1, .inl (dA 7, cap + pqGr cap, .inr (.inr (.inr (.inr (f1_2))))))]) [0, 1] (by decide) rfl
  have hp_2 : pqF f1_2 g1_3 (cap + 1) ∧ hpO (fun y => grK (V y)) g1_3 (cap + 1) ∧ hpS g1_3 (cap + 1) (fun y => y = x ∨ S9 y) ∧ pqN f1_2 (cap + 1) := hp_2
  refine W.widen (k := 1) (n := 0 + (cap + pqGr cap)) (by dsimp only; omega) (by dsimp only; omega) ?_
  exact z_zretG (a := true) C hlk hr hQ ⟨q9_1, f1_2, g1_3⟩ rfl hp_2 (hP.sub [0, 1] rfl) (hD.sub [0, 1] (by decide) rfl) hS (by dsimp only; omega) (by dsimp only; omega) dJ21_add_5
