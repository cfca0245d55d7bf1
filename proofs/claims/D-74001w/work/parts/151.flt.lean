/-! Faults (printed by tools/s_flt.py) -/
section ZFL
variable {p : Program} {l : Launch} {e : Env} {R : Room} {s : State} {m : MethodId} {args : Array Value} {below : List Frame} {meth : Method} {c : Code} {H : Heap} {locs : List Loc} {cells slots : Nat} {Q : State → Prop}
variable {cc : ByteArray} {nL : Nat} {own : String} {D : va_G} {dA : Nat → ClassId} {pc : Nat} {ls : Array Slot} {rest st0 : List Value} {A : Nat → Prop} {a : Nat} {ws : va_W} {H0 : Heap}
variable {x y : MethodName} {bytes : ByteArray} {maxL index : Nat} {ret : Option FieldType} {f lo b n : Nat} {As : List Value} {wc : va_W} {v : Option Value} {en : Nat → Nat → Nat} {fz f9 : zFt}
theorem z_getsq (C : zC p s m args c cc nL own D dA) {Cn n d : String} {index : Nat} (hZ : va_Zq Cn n d A s s.heap) (hS : va_S A s.heap H locs) (hlink : Cond.fieldLink own index Cn n d ∈ lw_all) (hdg : decode cc pc = .ok (.getstatic index, 3))
    (kk : ∀ bf : Option Nat, W p l e R s m args below meth c H locs cells slots Q (F0 m (pc + 3) ls (va_rf bf :: rest))) : W p l e R s m args below meth c H locs cells slots Q (F0 m pc ls rest) := by
  rcases hZ with h | ⟨t, h⟩
  · exact z_gets C h hS hlink hdg (kk none)
  · exact z_gets C h hS hlink hdg (kk (some t))
end ZFL

set_option maxHeartbeats 600000 in
set_option maxRecDepth 100000 in
theorem k_J0_init_2 (l : Launch) (D : va_G) (dA : Nat → ClassId) (B : Nat) (en : Nat → Nat → Nat) (a k : Nat) : zH (S := Unit) l yJ0_init_2 cJ0_init_2 5 (none) (zRmW 1 20 0 0) B en ([], []) D dA [.ref (a), .ref (k), .null, .int (zI 0), .int (zI 0)] [(a, .inr (1, [.null, .null, .null, .null, .null, .int (zI 0), .int (zI 0), .int (zI 0)]))] (fun _ : Unit => none) (fun _ : Unit => True) (fun _ : Unit => [(a, .inr (1, [.null, .null, .null, .ref (k), .null, .int (zI 0), .int (zI 0), .int (zI 0)]))]) := by
  refine zH.of (by decide +kernel) rfl ?_
  intro pp ee ss mm args below meth cd Q A C hr hlk hQ hA hV hin H locs hP hD hS ls hl
  have hx := C.1.1
  have hb := C.1.2.1
  have hl : lv_has ls 5 [(0, .ref (a)), (1, .ref (k)), (2, .null), (3, .int (zI 0)), (4, .int (zI 0))] := hl
  refine lv_aload_n hx hb dJ0_init_2_0 rfl (lv_at hl 0 rfl) ?_
  refine z_obj C q182 hl.1 (Nat.le_of_ble_eq_true rfl) (Nat.le_of_ble_eq_true rfl) dJ0_init_2_1 ?_
  refine lv_aload_n hx hb dJ0_init_2_4 rfl (lv_at hl 0 rfl) ?_
  refine lv_aload_n hx hb dJ0_init_2_5 rfl (lv_at hl 0 rfl) ?_
  refine z_put C hP hD hS 0 rfl rfl in_X1 tyX1_ok nmX1 0 (by decide) q215 rfl (v := .ref (a)) rfl rfl (Nat.le_of_ble_eq_true rfl) (ws' := [(a, .inr (1, [.ref (a), .null, .null, .null, .null, .int (zI 0), .int (zI 0), .int (zI 0)]))]) rfl dJ0_init_2_6 (fun H locs hP hD hS => ?_)
  refine lv_aload_n hx hb dJ0_init_2_9 rfl (lv_at hl 0 rfl) ?_
  refine z_getsq C hV.own.2.2.2.2.2.2.2.2.2.2.1 hS q183 dJ0_init_2_10 (fun bf_10 => ?_)
  refine z_put C hP hD hS 0 rfl rfl in_X1 tyX1_ok nmX1 1 (by decide) q216 rfl (v := va_rf (bf_10)) (by cases bf_10 <;> rfl) (by cases bf_10 <;> rfl) (Nat.le_of_ble_eq_true rfl) (ws' := [(a, .inr (1, [.ref (a), va_rf (bf_10), .null, .null, .null, .int (zI 0), .int (zI 0), .int (zI 0)]))]) rfl dJ0_init_2_13 (fun H locs hP hD hS => ?_)
  refine lv_aload_n hx hb dJ0_init_2_16 rfl (lv_at hl 0 rfl) ?_
  refine z_getsq C hV.own.2.2.2.2.2.2.2.2.2.2.2.1 hS q185 dJ0_init_2_17 (fun bf_17 => ?_)
  refine z_put C hP hD hS 0 rfl rfl in_X1 tyX1_ok nmX1 2 (by decide) q217 rfl (v := va_rf (bf_17)) (by cases bf_17 <;> rfl) (by cases bf_17 <;> rfl) (Nat.le_of_ble_eq_true rfl) (ws' := [(a, .inr (1, [.ref (a), va_rf (bf_10), va_rf (bf_17), .null, .null, .int (zI 0), .int (zI 0), .int (zI 0)]))]) rfl dJ0_init_2_20 (fun H locs hP hD hS => ?_)
  refine lv_iload hx hb dJ0_init_2_23 (lv_at hl 4 rfl) ?_
  refine z_if_eq (tgt := 36) C ⟨by decide, by decide⟩ dJ0_init_2_25 (by decide) (fun _ => ?_) (fun c => absurd c (by decide))
  refine lv_aload_n hx hb dJ0_init_2_36 rfl (lv_at hl 0 rfl) ?_
  refine lv_null C.1.1 C.1.2.1 dJ0_init_2_37 ?_
  refine z_put C hP hD hS 0 rfl rfl in_X1 tyX1_ok nmX1 1 (by decide) q216 rfl (v := .null) rfl rfl (Nat.le_of_ble_eq_true rfl) (ws' := [(a, .inr (1, [.ref (a), .null, va_rf (bf_17), .null, .null, .int (zI 0), .int (zI 0), .int (zI 0)]))]) rfl dJ0_init_2_38 (fun H locs hP hD hS => ?_)
  refine lv_aload_n hx hb dJ0_init_2_41 rfl (lv_at hl 0 rfl) ?_
  refine lv_aload_n hx hb dJ0_init_2_42 rfl (lv_at hl 1 rfl) ?_
  refine z_put C hP hD hS 0 rfl rfl in_X1 tyX1_ok nmX1 3 (by decide) q214 rfl (v := .ref (k)) rfl rfl (Nat.le_of_ble_eq_true rfl) (ws' := [(a, .inr (1, [.ref (a), .null, va_rf (bf_17), .ref (k), .null, .int (zI 0), .int (zI 0), .int (zI 0)]))]) rfl dJ0_init_2_43 (fun H locs hP hD hS => ?_)
  refine lv_aload_n hx hb dJ0_init_2_46 rfl (lv_at hl 0 rfl) ?_
  refine lv_aload_nN hx hb dJ0_init_2_47 rfl (lv_at hl 2 rfl) ?_
  refine z_put C hP hD hS 0 rfl rfl in_X1 tyX1_ok nmX1 0 (by decide) q215 rfl (v := .null) rfl rfl (Nat.le_of_ble_eq_true rfl) (ws' := [(a, .inr (1, [.null, .null, va_rf (bf_17), .ref (k), .null, .int (zI 0), .int (zI 0), .int (zI 0)]))]) rfl dJ0_init_2_48 (fun H locs hP hD hS => ?_)
  refine lv_iload_n hx hb dJ0_init_2_51 rfl (lv_at hl 3 rfl) ?_
  refine z_if_ne (tgt := 60) C ⟨by decide, by decide⟩ dJ0_init_2_52 (by decide) (fun c => absurd c (by decide)) (fun _ => ?_)
  refine lv_aload_n hx hb dJ0_init_2_55 rfl (lv_at hl 0 rfl) ?_
  refine lv_null C.1.1 C.1.2.1 dJ0_init_2_56 ?_
  refine z_put C hP hD hS 0 rfl rfl in_X1 tyX1_ok nmX1 2 (by decide) q217 rfl (v := .null) rfl rfl (Nat.le_of_ble_eq_true rfl) (ws' := [(a, .inr (1, [.null, .null, .null, .ref (k), .null, .int (zI 0), .int (zI 0), .int (zI 0)]))]) rfl dJ0_init_2_57 (fun H locs hP hD hS => ?_)
  exact z_vretG C hlk hr hQ () rfl trivial (hP.sub [0] rfl) (hD.sub [0] (by decide) rfl) hS (Nat.le_of_ble_eq_true rfl) (Nat.le_of_ble_eq_true rfl) dJ0_init_2_60

set_option maxHeartbeats 600000 in
set_option maxRecDepth 100000 in
theorem k_J1_init (l : Launch) (D : va_G) (dA : Nat → ClassId) (B : Nat) (en : Nat → Nat → Nat) (a k : Nat) : zH (S := Unit) l yJ1_init cJ1_init 5 (none) (zRmW 2 44 0 0) B en ([], []) D dA [.ref (a), .ref (k), .null, .int (zI 0), .int (zI 0)] [(a, .inr (1, [.null, .null, .null, .null, .null, .int (zI 0), .int (zI 0), .int (zI 0)]))] (fun _ : Unit => none) (fun _ : Unit => True) (fun _ : Unit => [(a, .inr (1, [.null, .null, .null, .ref (k), .null, .int (zI 0), .int (zI 0), .int (zI 0)]))]) := by
  refine zH.of (by decide +kernel) rfl ?_
  intro pp ee ss mm args below meth cd Q A C hr hlk hQ hA hV hin H locs hP hD hS ls hl
  have hx := C.1.1
  have hb := C.1.2.1
  have hl : lv_has ls 5 [(0, .ref (a)), (1, .ref (k)), (2, .null), (3, .int (zI 0)), (4, .int (zI 0))] := hl
  refine lv_aload_n hx hb dJ1_init_0 rfl (lv_at hl 0 rfl) ?_
  refine lv_aload_n hx hb dJ1_init_1 rfl (lv_at hl 1 rfl) ?_
  refine lv_aload_nN hx hb dJ1_init_2 rfl (lv_at hl 2 rfl) ?_
  refine lv_iload_n hx hb dJ1_init_3 rfl (lv_at hl 3 rfl) ?_
  refine lv_iload hx hb dJ1_init_4 (lv_at hl 4 rfl) ?_
  refine z_hI (n := 4) (As := [.ref (k), .null, .int (zI 0), .int (zI 0)]) (rest := []) (wc := [(a, .inr (1, [.null, .null, .null, .null, .null, .int (zI 0), .int (zI 0), .int (zI 0)]))]) (wr := []) C hV hP hD hS hA [0] [] rfl rfl (by decide) (by decide) (by decide) (k_J0_init_2 l D dA B en (a) (k)) zFI.nil q208 q109 q206 q207 rfl (by decide +kernel) rfl ⟨Nat.le_of_ble_eq_true rfl, Nat.le_of_ble_eq_true rfl⟩ hl.1 rfl (Nat.le_of_ble_eq_true rfl) dJ1_init_6 (by decide) (by decide) (fun _ H locs hp_6 hP hD hS _ => ?_)
  have hP := hP.sub (ws' := [(a, .inr (1, [.null, .null, .null, .ref (k), .null, .int (zI 0), .int (zI 0), .int (zI 0)]))]) [0] rfl
  have hD := hD.sub (ws' := [(a, .inr (1, [.null, .null, .null, .ref (k), .null, .int (zI 0), .int (zI 0), .int (zI 0)]))]) [0] (by decide) rfl
  refine W.widen (k := 0) (n := 0) (Nat.le_of_ble_eq_true rfl) (Nat.le_of_ble_eq_true rfl) ?_
  exact z_vretG C hlk hr hQ () rfl trivial (hP.sub [0] rfl) (hD.sub [0] (by decide) rfl) hS (Nat.le_of_ble_eq_true rfl) (Nat.le_of_ble_eq_true rfl) dJ1_init_9

set_option maxHeartbeats 600000 in
set_option maxRecDepth 100000 in
theorem k_J2_init (l : Launch) (D : va_G) (dA : Nat → ClassId) (B : Nat) (en : Nat → Nat → Nat) (a k : Nat) : zH (S := Unit) l yJ2_init cJ2_init 5 (none) (zRmW 3 68 0 0) B en ([], []) D dA [.ref (a), .ref (k), .null, .int (zI 0), .int (zI 0)] [(a, .inr (1, [.null, .null, .null, .null, .null, .int (zI 0), .int (zI 0), .int (zI 0)]))] (fun _ : Unit => none) (fun _ : Unit => True) (fun _ : Unit => [(a, .inr (1, [.null, .null, .null, .ref (k), .null, .int (zI 0), .int (zI 0), .int (zI 0)]))]) := by
  refine zH.of (by decide +kernel) rfl ?_
  intro pp ee ss mm args below meth cd Q A C hr hlk hQ hA hV hin H locs hP hD hS ls hl
  have hx := C.1.1
  have hb := C.1.2.1
  have hl : lv_has ls 5 [(0, .ref (a)), (1, .ref (k)), (2, .null), (3, .int (zI 0)), (4, .int (zI 0))] := hl
  refine lv_aload_n hx hb dJ2_init_0 rfl (lv_at hl 0 rfl) ?_
  refine lv_aload_n hx hb dJ2_init_1 rfl (lv_at hl 1 rfl) ?_
  refine lv_aload_nN hx hb dJ2_init_2 rfl (lv_at hl 2 rfl) ?_
  refine lv_iload_n hx hb dJ2_init_3 rfl (lv_at hl 3 rfl) ?_
  refine lv_iload hx hb dJ2_init_4 (lv_at hl 4 rfl) ?_
  refine z_hI (n := 4) (As := [.ref (k), .null, .int (zI 0), .int (zI 0)]) (rest := []) (wc := [(a, .inr (1, [.null, .null, .null, .null, .null, .int (zI 0), .int (zI 0), .int (zI 0)]))]) (wr := []) C hV hP hD hS hA [0] [] rfl rfl (by decide) (by decide) (by decide) (k_J1_init l D dA B en (a) (k)) zFI.nil q205 q110 q203 q204 rfl (by decide +kernel) rfl ⟨Nat.le_of_ble_eq_true rfl, Nat.le_of_ble_eq_true rfl⟩ hl.1 rfl (Nat.le_of_ble_eq_true rfl) dJ2_init_6 (by decide) (by decide) (fun _ H locs hp_6 hP hD hS _ => ?_)
  have hP := hP.sub (ws' := [(a, .inr (1, [.null, .null, .null, .ref (k), .null, .int (zI 0), .int (zI 0), .int (zI 0)]))]) [0] rfl
  have hD := hD.sub (ws' := [(a, .inr (1, [.null, .null, .null, .ref (k), .null, .int (zI 0), .int (zI 0), .int (zI 0)]))]) [0] (by decide) rfl
  refine W.widen (k := 0) (n := 0) (Nat.le_of_ble_eq_true rfl) (Nat.le_of_ble_eq_true rfl) ?_
  exact z_vretG C hlk hr hQ () rfl trivial (hP.sub [0] rfl) (hD.sub [0] (by decide) rfl) hS (Nat.le_of_ble_eq_true rfl) (Nat.le_of_ble_eq_true rfl) dJ2_init_9

set_option maxHeartbeats 600000 in
set_option maxRecDepth 100000 in
theorem k_X1_init (l : Launch) (D : va_G) (dA : Nat → ClassId) (B : Nat) (en : Nat → Nat → Nat) (a : Nat) : zH (S := Unit) l yX1_init cX1_init 1 (none) (zRmW 4 92 0 0) B en ([], []) D dA [.ref (a)] [(a, .inr (1, [.null, .null, .null, .null, .null, .int (zI 0), .int (zI 0), .int (zI 0)]))] (fun _ : Unit => none) (fun _ : Unit => True) (fun _ : Unit => [(a, .inr (1, [.null, .null, .null, .ref ((en 4 0)), .null, .int (zI 0), .int (zI 0), .int (zI 0)]))]) := by
  refine zH.of (by decide +kernel) rfl ?_
  intro pp ee ss mm args below meth cd Q A C hr hlk hQ hA hV hin H locs hP hD hS ls hl
  have hx := C.1.1
  have hb := C.1.2.1
  have hl : lv_has ls 1 [(0, .ref (a))] := hl
  refine lv_aload_n hx hb dX1_init_0 rfl (lv_at hl 0 rfl) ?_
  refine va_ldcS C.1.1 C.1.2.1 C.1.2.2.2.1 (show vk_R "SpinStrip$Fault" 1 "" (en 4 0) ss from hV.own.2.2.2.2.2.2.2.2.1 0 (by decide)) dX1_init_1 ?_
  refine lv_null C.1.1 C.1.2.1 dX1_init_3 ?_
  refine z_iconst C dX1_init_4 ?_
  refine z_iconst C dX1_init_5 ?_
  refine z_hI (n := 4) (As := [.ref (en 4 0), .null, .int (zI 0), .int (zI 0)]) (rest := []) (wc := [(a, .inr (1, [.null, .null, .null, .null, .null, .int (zI 0), .int (zI 0), .int (zI 0)]))]) (wr := []) C hV hP hD hS hA [0] [] rfl rfl (by decide) (by decide) (by decide) (k_J2_init l D dA B en (a) (en 4 0)) zFI.nil q202 q111 q200 q201 rfl (by decide +kernel) rfl ⟨Nat.le_of_ble_eq_true rfl, Nat.le_of_ble_eq_true rfl⟩ hl.1 rfl (Nat.le_of_ble_eq_true rfl) dX1_init_6 (by decide) (by decide) (fun _ H locs hp_6 hP hD hS _ => ?_)
  have hP := hP.sub (ws' := [(a, .inr (1, [.null, .null, .null, .ref ((en 4 0)), .null, .int (zI 0), .int (zI 0), .int (zI 0)]))]) [0] rfl
  have hD := hD.sub (ws' := [(a, .inr (1, [.null, .null, .null, .ref ((en 4 0)), .null, .int (zI 0), .int (zI 0), .int (zI 0)]))]) [0] (by decide) rfl
  refine W.widen (k := 0) (n := 0) (Nat.le_of_ble_eq_true rfl) (Nat.le_of_ble_eq_true rfl) ?_
  exact z_vretG C hlk hr hQ () rfl trivial (hP.sub [0] rfl) (hD.sub [0] (by decide) rfl) hS (Nat.le_of_ble_eq_true rfl) (Nat.le_of_ble_eq_true rfl) dX1_init_9
