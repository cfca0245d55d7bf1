/-! Strings (printed by tools/s_str.py) -/
section ZST
variable {p : Program} {l : Launch} {e : Env} {R : Room} {s : State} {m : MethodId} {args : Array Value} {below : List Frame} {meth : Method} {c : Code} {H : Heap} {locs : List Loc} {cells slots : Nat} {Q : State → Prop}
variable {cc : ByteArray} {nL : Nat} {own : String} {D : va_G} {dA : Nat → ClassId} {pc : Nat} {ls : Array Slot} {rest st0 : List Value} {A : Nat → Prop} {a : Nat} {ws : va_W} {H0 : Heap}
variable {x y : MethodName} {bytes : ByteArray} {maxL index : Nat} {ret : Option FieldType} {f lo b n : Nat} {As : List Value} {wc : va_W} {v : Option Value} {en : Nat → Nat → Nat} {fz f9 : zFt}
def zch (i k : Nat) : Nat := ((zByt.getD i []).getD k 0).toInt.toNat
set_option maxRecDepth 100000 in
theorem zch_ok : ∀ i : Nat, i < 12 → ∀ k : Nat, k < zLen.getD i 0 → (zByt.getD i []).getD k 0 = zI (zch i k : Int) ∧ zch i k < 128 := by decide +kernel
set_option maxRecDepth 100000 in
theorem zch_n : ∀ x : Nat, x < 128 → narrow .char (.int (zI (x : Int))) = .int (zI (x : Int)) ∧ ((zI (x : Int)).toUInt32 % 65536).toInt32 = zI (x : Int) ∧ x &&& 255 = x := by decide +kernel
theorem zLen_le : ∀ i : Nat, i < 12 → zLen.getD i 0 ≤ 6 := by decide
theorem z_scod (C : zC p s m args c cc nL own D dA) (hV : zEw en fz s s.heap) {i : Nat} (hi : i < 12) (hlink : Cond.fieldLink own index "java/lang/String" "coder" "B" ∈ lw_all) (hdg : decode cc pc = .ok (.getfield index, 3))
    (kk : W p l e R s m args below meth c s.heap [] cells slots Q (F0 m (pc + 3) ls (.int (zI 0) :: rest))) : W p l e R s m args below meth c s.heap [] cells slots Q (F0 m pc ls (.ref (en 4 i) :: rest)) :=
  vk_getf C.1.1 C.1.2.1 (hV.1.2.2.2.2.2.2.2.1.1 i hi).2.1 va_S.rf C.1.2.2.2.1 (C.1.2.2.2.2 _ hlink) (fun _ h => h) hdg kk
theorem z_sval (C : zC p s m args c cc nL own D dA) (hV : zEw en fz s s.heap) {i : Nat} (hi : i < 12) (hlink : Cond.fieldLink own index "java/lang/String" "value" "[B" ∈ lw_all) (hdg : decode cc pc = .ok (.getfield index, 3))
    (kk : W p l e R s m args below meth c s.heap [] cells slots Q (F0 m (pc + 3) ls (.ref (en 5 i) :: rest))) : W p l e R s m args below meth c s.heap [] cells slots Q (F0 m pc ls (.ref (en 4 i) :: rest)) :=
  vk_getf C.1.1 C.1.2.1 (hV.1.2.2.2.2.2.2.2.1.1 i hi).2.2.1 va_S.rf C.1.2.2.2.1 (C.1.2.2.2.2 _ hlink) (fun _ h => h) hdg kk
theorem z_slen (C : zC p s m args c cc nL own D dA) (hV : zEw en fz s s.heap) {i : Nat} (hi : i < 12) (hdg : decode cc pc = .ok (.arraylength, 1))
    (kk : W p l e R s m args below meth c s.heap [] cells slots Q (F0 m (pc + 1) ls (.int (zI ((zLen.getD i 0 : Nat) : Int)) :: rest))) : W p l e R s m args below meth c s.heap [] cells slots Q (F0 m pc ls (.ref (en 5 i) :: rest)) :=
  va_tlen C.1.1 C.1.2.1 (hV.1.2.2.2.2.2.2.2.1.1 i hi).2.2.2 va_S.rf rfl hdg kk
theorem z_sbyt (C : zC p s m args c cc nL own D dA) (hV : zEw en fz s s.heap) {i k : Nat} (hi : i < 12) (hk : k < zLen.getD i 0) (hdg : decode cc pc = .ok (.baload, 1))
    (kk : W p l e R s m args below meth c s.heap [] cells slots Q (F0 m (pc + 1) ls (.int (zI (zch i k : Int)) :: rest))) : W p l e R s m args below meth c s.heap [] cells slots Q (F0 m pc ls (.int (zI (k : Int)) :: .ref (en 5 i) :: rest)) := by
  have h6 := zLen_le i hi
  exact va_tb C.1.1 C.1.2.1 (hV.1.2.2.2.2.2.2.2.1.1 i hi).2.2.2 va_S.rf (zI_in hk (by omega)) (by rw [zI_clampN (by omega), (zch_ok i hi k hk).1]) hdg kk
theorem z_getsN (C : zC p s m args c cc nL own D dA) {Cn n d : String} {v : Value} {index : Nat} (hZ : va_Z Cn n d v zFa s s.heap) (hlink : Cond.fieldLink own index Cn n d ∈ lw_all) (hdg : decode cc pc = .ok (.getstatic index, 3))
    (kk : W p l e R s m args below meth c s.heap [] cells slots Q (F0 m (pc + 3) ls (v :: rest))) : W p l e R s m args below meth c s.heap [] cells slots Q (F0 m pc ls rest) := z_gets C hZ va_S.rf hlink hdg kk
theorem z_getsQ (C : zC p s m args c cc nL own D dA) {Cn n d : String} {index : Nat} (hZ : va_Zq Cn n d zFa s s.heap) (hlink : Cond.fieldLink own index Cn n d ∈ lw_all) (hdg : decode cc pc = .ok (.getstatic index, 3))
    (kk : ∀ bf : Option Nat, W p l e R s m args below meth c s.heap [] cells slots Q (F0 m (pc + 3) ls (va_rf bf :: rest))) : W p l e R s m args below meth c s.heap [] cells slots Q (F0 m pc ls rest) := by
  rcases hZ with h | ⟨t, h⟩
  · exact z_getsN C h hlink hdg (kk none)
  · exact z_getsN C h hlink hdg (kk (some t))
theorem z_nret {ty : FieldType} (C : zC p s m args c cc nL own D dA) (hlk : meth.locks = false) (hr : meth.sig.returnType = some ty) {a b : Int} (hn : narrow ty (.int (zI a)) = .int (zI a)) (hQ : Q = MQ below (zQ (some (.int (zI b)))) args s 0 0 (fun _ => False)) (h : a = b) (hdg : decode cc pc = .ok (.ireturn, 1)) : W p l e R s m args below meth c s.heap [] 0 0 Q (F0 m pc ls [.int (zI a)]) := by
  subst hQ
  subst h
  exact W.zret C.1.1 C.1.2.1 hr hn (fun t ht _ => ⟨rfl, ht⟩) (fun _ h => by cases h) hdg hlk
theorem z_vretN (C : zC p s m args c cc nL own D dA) (hlk : meth.locks = false) (hr : meth.sig.returnType = none) (hQ : Q = MQ below (zQ none) args s 0 0 (fun _ => False)) (hdg : decode cc pc = .ok (.return_, 1)) : W p l e R s m args below meth c s.heap [] 0 0 Q (F0 m pc ls []) := by
  subst hQ
  exact W.vret C.1.1 C.1.2.1 hr (fun t ht _ => ⟨rfl, ht⟩) (fun _ h => by cases h) hdg hlk
end ZST

set_option maxHeartbeats 600000 in
set_option maxRecDepth 100000 in
theorem k_J7_coder (l : Launch) (D : va_G) (dA : Nat → ClassId) (en : Nat → Nat → Nat) (i : Nat) (hi9 : i < 12) : zN l yJ7_coder cJ7_coder 1 (some .byte) (zRm 0 0) en ([], []) D dA [.ref (en 4 i)] [] (some (.int (zI 0))) := by
  refine zN.of (by decide +kernel) rfl ?_
  intro pp ee ss mm args below meth cd Q C hr hlk hQ hV hP ls hl
  have hx := C.1.1
  have hb := C.1.2.1
  have hl : lv_has ls 1 [(0, .ref (en 4 i))] := hl
  refine z_getsN C (v := .int (zB true)) hV.1.2.2.2.2.2.2.2.2.2.1 q630 dJ7_coder_0 ?_
  refine z_if_eqB (tgt := 13) C dJ7_coder_3 (by decide) (fun c_3 => ?_) (fun c_3 => ?_)
  · cases c_3
  · refine lv_aload_n hx hb dJ7_coder_6 rfl (lv_at hl 0 rfl) ?_
    refine z_scod C hV hi9 q2424 dJ7_coder_7 ?_
    refine lv_goto (tgt := 14) hx hb dJ7_coder_10 (by decide) ?_
    exact z_nret C hlk hr rfl hQ rfl dJ7_coder_14

set_option maxHeartbeats 600000 in
set_option maxRecDepth 100000 in
theorem k_J7_isLatin1 (l : Launch) (D : va_G) (dA : Nat → ClassId) (en : Nat → Nat → Nat) (i : Nat) (hi9 : i < 12) : zN l yJ7_isLatin1 cJ7_isLatin1 1 (some .boolean) (zRm 0 0) en ([], []) D dA [.ref (en 4 i)] [] (some (.int (zB (true)))) := by
  refine zN.of (by decide +kernel) rfl ?_
  intro pp ee ss mm args below meth cd Q C hr hlk hQ hV hP ls hl
  have hx := C.1.1
  have hb := C.1.2.1
  have hl : lv_has ls 1 [(0, .ref (en 4 i))] := hl
  refine z_getsN C (v := .int (zB true)) hV.1.2.2.2.2.2.2.2.2.2.1 q630 dJ7_isLatin1_0 ?_
  refine z_if_eqB (tgt := 17) C dJ7_isLatin1_3 (by decide) (fun c_3 => ?_) (fun c_3 => ?_)
  · cases c_3
  · refine lv_aload_n hx hb dJ7_isLatin1_6 rfl (lv_at hl 0 rfl) ?_
    refine z_scod C hV hi9 q2424 dJ7_isLatin1_7 ?_
    refine z_if_ne (tgt := 17) C ⟨by decide, by decide⟩ dJ7_isLatin1_10 (by decide) (fun c => absurd c (by decide)) (fun _ => ?_)
    refine z_iconst C dJ7_isLatin1_13 ?_
    refine lv_goto (tgt := 18) hx hb dJ7_isLatin1_14 (by decide) ?_
    exact z_zret1 C hlk hr hQ (by first | rfl | omega) dJ7_isLatin1_18

set_option maxHeartbeats 600000 in
set_option maxRecDepth 100000 in
theorem k_J7_length (l : Launch) (D : va_G) (dA : Nat → ClassId) (en : Nat → Nat → Nat) (i : Nat) (hi9 : i < 12) : zN l yJ7_length cJ7_length 1 (some .int) (zRm 1 20) en ([], []) D dA [.ref (en 4 i)] [] (some (.int (zI (((zLen.getD i 0) : Nat) : Int)))) := by
  refine zN.of (by decide +kernel) rfl ?_
  intro pp ee ss mm args below meth cd Q C hr hlk hQ hV hP ls hl
  have hx := C.1.1
  have hb := C.1.2.1
  have hl : lv_has ls 1 [(0, .ref (en 4 i))] := hl
  have h6 := zLen_le i hi9
  refine lv_aload_n hx hb dJ7_length_0 rfl (lv_at hl 0 rfl) ?_
  refine z_sval C hV hi9 q2423 dJ7_length_1 ?_
  refine z_slen C hV hi9 dJ7_length_4 ?_
  refine lv_aload_n hx hb dJ7_length_5 rfl (lv_at hl 0 rfl) ?_
  refine z_nV (n := 0) (As := []) (rest := [.int (zI (((zLen.getD i 0) : Nat) : Int))]) C hV (k_J7_coder l D dA en (i) (by first | with_reducible assumption | omega | with_reducible rfl)) (lw_V q626 q627 q628 q125 q629) (by decide +kernel) rfl ⟨Nat.le_of_ble_eq_true rfl, Nat.le_of_ble_eq_true rfl⟩ hl.1 (hP.sub [] rfl) (vk_recv (H := ss.heap) (locs := []) hV.1.2.2.2.2.2.2.2.1 hi9 va_S.rf) rfl (Nat.le_of_ble_eq_true rfl) dJ7_length_6 (Nat.zero_le _) (Nat.zero_le _) ?_
  refine z_ishrN C ((zLen.getD i 0)) (0) rfl rfl (by omega) (by omega) dJ7_length_9 ?_
  exact z_iret C hlk hr hQ (by simp) dJ7_length_10

set_option maxHeartbeats 600000 in
set_option maxRecDepth 100000 in
theorem k_J9_checkIndex (l : Launch) (D : va_G) (dA : Nat → ClassId) (i k : Nat) (f : Option Nat) (h1 : i < k) (h2 : k ≤ 100000) : zM l yJ9_checkIndex cJ9_checkIndex 3 (some .int) (zRm 0 0) D dA [.int (zI ((i : Nat) : Int)), .int (zI ((k : Nat) : Int)), va_rf (f)] [] (some (.int (zI ((i : Nat) : Int)))) := by
  refine zM.of (by decide +kernel) (by cases f <;> rfl) ?_
  intro pp ee ss mm args below meth cd Q C hr hlk hQ hP ls hl
  have hx := C.1.1
  have hb := C.1.2.1
  have hl : lv_has ls 3 [(0, .int (zI ((i : Nat) : Int))), (1, .int (zI ((k : Nat) : Int))), (2, va_rf (f))] := (by cases f <;> exact hl)
  refine lv_iload_n hx hb dJ9_checkIndex_0 rfl (lv_at hl 0 rfl) ?_
  refine z_if_lt (tgt := 9) C ⟨by omega, by omega⟩ dJ9_checkIndex_1 (by decide) (fun c_1 => ?_) (fun c_1 => ?_)
  · omega
  · refine lv_iload_n hx hb dJ9_checkIndex_4 rfl (lv_at hl 0 rfl) ?_
    refine lv_iload_n hx hb dJ9_checkIndex_5 rfl (lv_at hl 1 rfl) ?_
    refine z_icmp_lt (tgt := 16) C ⟨by omega, by omega⟩ ⟨by omega, by omega⟩ dJ9_checkIndex_6 (by decide) (fun c_6 => ?_) (fun c_6 => ?_)
    · refine lv_iload_n hx hb dJ9_checkIndex_16 rfl (lv_at hl 0 rfl) ?_
      exact z_iret C hlk hr hQ (by first | rfl | omega) dJ9_checkIndex_17
    · omega

set_option maxHeartbeats 600000 in
set_option maxRecDepth 100000 in
theorem k_J7_checkIndex (l : Launch) (D : va_G) (dA : Nat → ClassId) (en : Nat → Nat → Nat) (i k : Nat) (h1 : i < k) (h2 : k ≤ 100000) : zN l yJ7_checkIndex cJ7_checkIndex 2 (none) (zRm 1 22) en ([], []) D dA [.int (zI ((i : Nat) : Int)), .int (zI ((k : Nat) : Int))] [] none := by
  refine zN.of (by decide +kernel) rfl ?_
  intro pp ee ss mm args below meth cd Q C hr hlk hQ hV hP ls hl
  have hx := C.1.1
  have hb := C.1.2.1
  have hl : lv_has ls 2 [(0, .int (zI ((i : Nat) : Int))), (1, .int (zI ((k : Nat) : Int)))] := hl
  refine lv_iload_n hx hb dJ7_checkIndex_0 rfl (lv_at hl 0 rfl) ?_
  refine lv_iload_n hx hb dJ7_checkIndex_1 rfl (lv_at hl 1 rfl) ?_
  refine z_getsQ C hV.1.2.2.2.2.2.2.2.2.2.2.2.2.1 q646 dJ7_checkIndex_2 (fun bf_9 => ?_)
  refine z_cS (n := 3) (As := [.int (zI ((i : Nat) : Int)), .int (zI ((k : Nat) : Int)), va_rf (bf_9)]) (rest := []) C (k_J9_checkIndex l D dA (i) (k) (bf_9) (by first | with_reducible assumption | omega | with_reducible rfl) (by first | with_reducible assumption | omega | with_reducible rfl)) (lw_S q648 q649 q127 q650) (by decide +kernel) rfl ⟨Nat.le_of_ble_eq_true rfl, Nat.le_of_ble_eq_true rfl⟩ hl.1 (hP.sub [] rfl) rfl (Nat.le_of_ble_eq_true rfl) dJ7_checkIndex_5 (Nat.zero_le _) (Nat.zero_le _) ?_
  refine lv_pop hx hb dJ7_checkIndex_8 rfl ?_
  exact z_vretN C hlk hr hQ dJ7_checkIndex_9

set_option maxHeartbeats 600000 in
set_option maxRecDepth 100000 in
theorem k_J8_charAt (l : Launch) (D : va_G) (dA : Nat → ClassId) (en : Nat → Nat → Nat) (i k : Nat) (hi9 : i < 12) (hk9 : k < zLen.getD i 0) : zN l yJ8_charAt cJ8_charAt 2 (some .char) (zRm 2 43) en ([], []) D dA [.ref (en 5 i), .int (zI ((k : Nat) : Int))] [] (some (.int (zI (((zch i k) : Nat) : Int)))) := by
  refine zN.of (by decide +kernel) rfl ?_
  intro pp ee ss mm args below meth cd Q C hr hlk hQ hV hP ls hl
  have hx := C.1.1
  have hb := C.1.2.1
  have hl : lv_has ls 2 [(0, .ref (en 5 i)), (1, .int (zI ((k : Nat) : Int)))] := hl
  have h6 := zLen_le i hi9
  have h7 := (zch_ok i hi9 k hk9).2
  refine lv_iload_n hx hb dJ8_charAt_0 rfl (lv_at hl 1 rfl) ?_
  refine lv_aload_n hx hb dJ8_charAt_1 rfl (lv_at hl 0 rfl) ?_
  refine z_slen C hV hi9 dJ8_charAt_2 ?_
  refine z_nS (n := 2) (As := [.int (zI ((k : Nat) : Int)), .int (zI (((zLen.getD i 0) : Nat) : Int))]) (rest := []) C hV (k_J7_checkIndex l D dA en (k) ((zLen.getD i 0)) (by first | with_reducible assumption | omega | with_reducible rfl) (by first | with_reducible assumption | omega | with_reducible rfl)) (lw_S q643 q644 q125 q645) (by decide +kernel) rfl ⟨Nat.le_of_ble_eq_true rfl, Nat.le_of_ble_eq_true rfl⟩ hl.1 (hP.sub [] rfl) rfl (Nat.le_of_ble_eq_true rfl) dJ8_charAt_3 (Nat.zero_le _) (Nat.zero_le _) ?_
  refine lv_aload_n hx hb dJ8_charAt_6 rfl (lv_at hl 0 rfl) ?_
  refine lv_iload_n hx hb dJ8_charAt_7 rfl (lv_at hl 1 rfl) ?_
  refine z_sbyt C hV hi9 hk9 dJ8_charAt_8 ?_
  refine z_sipush C dJ8_charAt_9 rfl ?_
  refine z_iand C ((zch i k)) (255) rfl rfl dJ8_charAt_12 ?_
  refine lv_i2c C.1.1 C.1.2.1 (v := zI (zch i k : Int)) dJ8_charAt_13 (by rw [(zch_n _ (zch_ok i hi9 k hk9).2).2.2]; exact (zch_n _ (zch_ok i hi9 k hk9).2).2.1) ?_
  exact z_nret C hlk hr (zch_n _ (zch_ok i hi9 k hk9).2).1 hQ rfl dJ8_charAt_14

set_option maxHeartbeats 600000 in
set_option maxRecDepth 100000 in
theorem k_J7_charAt (l : Launch) (D : va_G) (dA : Nat → ClassId) (en : Nat → Nat → Nat) (i k : Nat) (hi9 : i < 12) (hk9 : k < zLen.getD i 0) : zN l yJ7_charAt cJ7_charAt 2 (some .char) (zRm 3 64) en ([], []) D dA [.ref (en 4 i), .int (zI ((k : Nat) : Int))] [] (some (.int (zI (((zch i k) : Nat) : Int)))) := by
  refine zN.of (by decide +kernel) rfl ?_
  intro pp ee ss mm args below meth cd Q C hr hlk hQ hV hP ls hl
  have hx := C.1.1
  have hb := C.1.2.1
  have hl : lv_has ls 2 [(0, .ref (en 4 i)), (1, .int (zI ((k : Nat) : Int)))] := hl
  have h6 := zLen_le i hi9
  refine lv_aload_n hx hb dJ7_charAt_0 rfl (lv_at hl 0 rfl) ?_
  refine z_nV (n := 0) (As := []) (rest := []) C hV (k_J7_isLatin1 l D dA en (i) (by first | with_reducible assumption | omega | with_reducible rfl)) (lw_V q636 q637 q638 q125 q639) (by decide +kernel) rfl ⟨Nat.le_of_ble_eq_true rfl, Nat.le_of_ble_eq_true rfl⟩ hl.1 (hP.sub [] rfl) (vk_recv (H := ss.heap) (locs := []) hV.1.2.2.2.2.2.2.2.1 hi9 va_S.rf) rfl (Nat.le_of_ble_eq_true rfl) dJ7_charAt_1 (Nat.zero_le _) (Nat.zero_le _) ?_
  refine z_if_eqB (tgt := 16) C dJ7_charAt_4 (by decide) (fun c_4 => ?_) (fun c_4 => ?_)
  · cases c_4
  · refine lv_aload_n hx hb dJ7_charAt_7 rfl (lv_at hl 0 rfl) ?_
    refine z_sval C hV hi9 q2423 dJ7_charAt_8 ?_
    refine lv_iload_n hx hb dJ7_charAt_11 rfl (lv_at hl 1 rfl) ?_
    refine z_nS (n := 2) (As := [.ref (en 5 i), .int (zI ((k : Nat) : Int))]) (rest := []) C hV (k_J8_charAt l D dA en (i) (k) (by first | with_reducible assumption | omega | with_reducible rfl) (by first | with_reducible assumption | omega | with_reducible rfl)) (lw_S q640 q641 q126 q642) (by decide +kernel) rfl ⟨Nat.le_of_ble_eq_true rfl, Nat.le_of_ble_eq_true rfl⟩ hl.1 (hP.sub [] rfl) rfl (Nat.le_of_ble_eq_true rfl) dJ7_charAt_12 (Nat.zero_le _) (Nat.zero_le _) ?_
    exact z_nret C hlk hr (zch_n _ (zch_ok i hi9 k hk9).2).1 hQ rfl dJ7_charAt_15
