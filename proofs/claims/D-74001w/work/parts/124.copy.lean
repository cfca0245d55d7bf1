/-! Arrays.copyOf of a row of objects (printed by tools/s_copy.py) -/
set_option maxHeartbeats 600000 in
set_option maxRecDepth 100000 in
theorem k_J11_copyOf_2 (l : Launch) (D : va_G) (dA : Nat → ClassId) (B : Nat) (en : Nat → Nat → Nat) (e k j : Nat) (f : Nat → Option Nat) (an : List (Nat × String)) (Cn : String) (hkj : k ≤ j) (hj : j ≤ 100000) (hel : ∀ i y, i < k → f i = some y → (y, Cn) ∈ an) (hc : (Cn, "java/lang/Object") ∈ zCast) : zH (S := Nat) l yJ11_copyOf_2 cJ11_copyOf_2 4 (some (.array (.object "java/lang/Object"))) (zRmW 1 26 1 j) B en ([], an) D dA [.ref (e), .int (zI ((j : Nat) : Int)), .ref (en 6 0)] [(e, .inl (dA 7, k, .inr (.inr (.inr (.inr (f))))))] (fun u : Nat => some (.ref (u))) (fun u : Nat => True) (fun u : Nat => [(e, .inl (dA 7, k, .inr (.inr (.inr (.inr (f)))))), (u, .inl (dA 7, j, .inr (.inr (.inr (.inr ((va_cpy f (fun _ => none) 0 0 k)))))))]) := by
  refine zH.of (by decide +kernel) rfl ?_
  intro pp ee ss mm args below meth cd Q A C hr hlk hQ hA hV hin H locs hP hD hS ls hl
  have hx := C.1.1
  have hb := C.1.2.1
  have hl : lv_has ls 4 [(0, .ref (e)), (1, .int (zI ((j : Nat) : Int))), (2, .ref (en 6 0))] := hl
  refine lv_aload_n hx hb dJ11_copyOf_2_0 rfl (lv_at hl 2 rfl) ?_
  refine z_ldcM C hV q897 dJ11_copyOf_2_1 ?_
  refine lv_acmp_ne (rx := some (en 6 0)) (ry := some (en 6 0)) (tgt := 13) hx hb dJ11_copyOf_2_3 (by decide) (fun c => absurd rfl c) (fun _ => ?_)
  refine lv_iload_n hx hb dJ11_copyOf_2_6 rfl (lv_at hl 1 rfl) ?_
  refine z_newq C hP hD hS hA 7 rfl (by decide) q898 (by decide) (j) rfl (by omega) (by dsimp only; omega) (by dsimp only; omega) dJ11_copyOf_2_7 (fun na_1 H hP hD hS => ?_)
  have hP : va_P D vwCl [(e, .inl (dA 7, k, .inr (.inr (.inr (.inr (f)))))), (na_1, .inl (dA 7, j, .inr (.inr (.inr (.inr (fun _ => none))))))] H := hP
  have hD : va_D A [(e, .inl (dA 7, k, .inr (.inr (.inr (.inr (f)))))), (na_1, .inl (dA 7, j, .inr (.inr (.inr (.inr (fun _ => none))))))] := hD
  refine lv_goto (tgt := 24) hx hb dJ11_copyOf_2_10 (by decide) ?_
  refine lv_astore_n (lv' := [(3, .ref (na_1)), (0, .ref (e)), (1, .int (zI ((j : Nat) : Int))), (2, .ref (en 6 0))]) hx hb dJ11_copyOf_2_24 rfl hl (by decide) rfl (fun ls hl => ?_)
  refine lv_aload_n hx hb dJ11_copyOf_2_25 rfl (lv_at hl 1 rfl) ?_
  refine z_iconst C dJ11_copyOf_2_26 ?_
  refine lv_aload_n hx hb dJ11_copyOf_2_27 rfl (lv_at hl 0 rfl) ?_
  refine z_iconst C dJ11_copyOf_2_28 ?_
  refine lv_aload_n hx hb dJ11_copyOf_2_29 rfl (lv_at hl 1 rfl) ?_
  refine z_alen C hP 0 7 rfl rfl rfl dJ11_copyOf_2_30 ?_
  refine lv_iload_n hx hb dJ11_copyOf_2_31 rfl (lv_at hl 2 rfl) ?_
  refine z_mmin C ⟨by omega, by omega⟩ ⟨by omega, by omega⟩ q899 hl.1 (Nat.le_of_ble_eq_true rfl) (Nat.le_of_ble_eq_true rfl) (by dsimp only; omega) (by dsimp only; omega) dJ11_copyOf_2_32 ?_
  refine z_nm (fun mn_2 e_mn_2 => ?_)
  refine z_acopyO C hP hD hS 0 1 rfl rfl (0) (0) (k) rfl rfl (by rw [e_mn_2]; split <;> omega) (by omega) (by omega) ⟨by omega, by omega⟩ (Cn := Cn) (fun i hi y hy => (hV.fz hS).cell (hel _ y (by omega) hy)) hc q902 hl.1 (Nat.le_of_ble_eq_true rfl) (Nat.le_of_ble_eq_true rfl) (ws' := [(e, .inl (dA 7, k, .inr (.inr (.inr (.inr (f)))))), (na_1, .inl (dA 7, j, .inr (.inr (.inr (.inr ((va_cpy f (fun _ => none) 0 0 k)))))))]) rfl dJ11_copyOf_2_35 (fun H locs hP hD hS => ?_)
  refine lv_aload_n hx hb dJ11_copyOf_2_38 rfl (lv_at hl 0 rfl) ?_
  exact z_aretG C hlk hr (Or.inr ⟨_, rfl⟩) hQ (Or.inr ⟨_, rfl⟩) (na_1) rfl trivial (hP.sub [0, 1] rfl) (hD.sub [0, 1] (by decide) rfl) hS (by dsimp only; omega) (by dsimp only; omega) dJ11_copyOf_2_39

set_option maxHeartbeats 600000 in
set_option maxRecDepth 100000 in
theorem k_J11_copyOf (l : Launch) (D : va_G) (dA : Nat → ClassId) (B : Nat) (en : Nat → Nat → Nat) (e k j : Nat) (f : Nat → Option Nat) (an : List (Nat × String)) (Cn : String) (hkj : k ≤ j) (hj : j ≤ 100000) (hel : ∀ i y, i < k → f i = some y → (y, Cn) ∈ an) (hc : (Cn, "java/lang/Object") ∈ zCast) : zH (S := Nat) l yJ11_copyOf cJ11_copyOf 2 (some (.array (.object "java/lang/Object"))) (zRmW 2 49 1 j) B en ([], an) D dA [.ref (e), .int (zI ((j : Nat) : Int))] [(e, .inl (dA 7, k, .inr (.inr (.inr (.inr (f))))))] (fun u : Nat => some (.ref (u))) (fun u : Nat => True) (fun u : Nat => [(e, .inl (dA 7, k, .inr (.inr (.inr (.inr (f)))))), (u, .inl (dA 7, j, .inr (.inr (.inr (.inr ((va_cpy f (fun _ => none) 0 0 k)))))))]) := by
  refine zH.of (by decide +kernel) rfl ?_
  intro pp ee ss mm args below meth cd Q A C hr hlk hQ hA hV hin H locs hP hD hS ls hl
  have hx := C.1.1
  have hb := C.1.2.1
  have hl : lv_has ls 2 [(0, .ref (e)), (1, .int (zI ((j : Nat) : Int)))] := hl
  refine lv_aload_n hx hb dJ11_copyOf_0 rfl (lv_at hl 0 rfl) ?_
  refine lv_iload_n hx hb dJ11_copyOf_1 rfl (lv_at hl 1 rfl) ?_
  refine lv_aload_n hx hb dJ11_copyOf_2 rfl (lv_at hl 0 rfl) ?_
  refine z_getC C hV hP 0 rfl q869 hl.1 (Nat.le_of_ble_eq_true rfl) (Nat.le_of_ble_eq_true rfl) (Nat.le_of_ble_eq_true rfl) dJ11_copyOf_3 ?_
  refine z_hS (n := 3) (As := [.ref (e), .int (zI ((j : Nat) : Int)), .ref (en 6 0)]) (rest := []) (wc := [(e, .inl (dA 7, k, .inr (.inr (.inr (.inr (f))))))]) (wr := []) C hV hP hD hS hA [0] [] rfl rfl (by decide) (by decide) (by decide) (k_J11_copyOf_2 l D dA B en (e) (k) (j) (f) (an) (Cn) (by first | with_reducible assumption | omega | with_reducible rfl) (by first | with_reducible assumption | omega | with_reducible rfl) (by first | with_reducible assumption | omega | with_reducible rfl) (by first | with_reducible assumption | omega | with_reducible rfl)) ((hV.fz hS).narrow (va_free hD hS hA [0] rfl)) (lw_S q894 q895 q130 q896) (by decide +kernel) rfl ⟨Nat.le_of_ble_eq_true rfl, Nat.le_of_ble_eq_true rfl⟩ hl.1 rfl (Nat.le_of_ble_eq_true rfl) dJ11_copyOf_6 (by dsimp only; omega) (by dsimp only; omega) (fun u_6 H locs hp_6 hP hD hS _ => ?_)
  obtain ⟨q9_1, rfl⟩ : ∃ z, z = u_6 := ⟨_, rfl⟩
  have hP := hP.sub (ws' := [(e, .inl (dA 7, k, .inr (.inr (.inr (.inr (f)))))), (q9_1, .inl (dA 7, j, .inr (.inr (.inr (.inr ((va_cpy f (fun _ => none) 0 0 k)))))))]) [0, 1] rfl
  have hD := hD.sub (ws' := [(e, .inl (dA 7, k, .inr (.inr (.inr (.inr (f)))))), (q9_1, .inl (dA 7, j, .inr (.inr (.inr (.inr ((va_cpy f (fun _ => none) 0 0 k)))))))]) [0, 1] (by decide) rfl
  refine W.widen (k := 1) (n := 0 + j) (by dsimp only; omega) (by dsimp only; omega) ?_
  exact z_aretG C hlk hr (Or.inr ⟨_, rfl⟩) hQ (Or.inr ⟨_, rfl⟩) (q9_1) rfl trivial (hP.sub [0, 1] rfl) (hD.sub [0, 1] (by decide) rfl) hS (by dsimp only; omega) (by dsimp only; omega) dJ11_copyOf_9
