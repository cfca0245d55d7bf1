/-! Greater (printed by tools/s_gr.py) -/
/-- the order of Greater: more sites first, then the lowest one first -/
def grK (v : Nat) : Int := 100 * (0 - (pop v : Int)) + (tz v : Int)
def grC (v w : Nat) : Int := if pop v = pop w then (tz v : Int) - (tz w : Int) else (pop w : Int) - (pop v : Int)

set_option maxHeartbeats 600000 in
set_option maxRecDepth 100000 in
theorem k_X12_compare_2 (l : Launch) (D : va_G) (dA : Nat → ClassId) (en : Nat → Nat → Nat) (a x y v w : Nat) (hv : 0 < v ∧ v < 65536) (hw : 0 < w ∧ w < 65536) : zN l yX12_compare_2 cX12_compare_2 5 (some .int) (zRm 2 40) en ([(x, (v : Int)), (y, (w : Int))], []) D dA [.ref (a), .ref (x), .ref (y)] [] (some (.int (zI (grC v w)))) := by
  refine zN.of (by decide +kernel) rfl ?_
  intro pp ee ss mm args below meth cd Q C hr hlk hQ hV hP ls hl
  have hx := C.1.1
  have hb := C.1.2.1
  have hl : lv_has ls 5 [(0, .ref (a)), (1, .ref (x)), (2, .ref (y))] := hl
  have p1 : pop v ≤ 32 := pcf_le 32 v
  have p2 : pop w ≤ 32 := pcf_le 32 w
  refine lv_aload_n hx hb dX12_compare_2_0 rfl (lv_at hl 1 rfl) ?_
  refine z_nV (n := 0) (As := []) (rest := []) C (hV.sub (fun q9 h9 => by simp at h9; rw [h9]; exact List.mem_cons_self) (fun q9 h9 => by cases h9)) (k_J14_intValue l D dA en (x) ((v : Int))) (lw_V q1260 q1261 q1262 q133 q1263) (by decide +kernel) rfl ⟨Nat.le_of_ble_eq_true rfl, Nat.le_of_ble_eq_true rfl⟩ hl.1 (hP.sub [] rfl) (hV.2.icell List.mem_cons_self) rfl (Nat.le_of_ble_eq_true rfl) dX12_compare_2_1 (Nat.zero_le _) (Nat.zero_le _) ?_
  refine lv_istore_n (lv' := [(3, .int (zI ((v : Nat) : Int))), (0, .ref (a)), (1, .ref (x)), (2, .ref (y))]) hx hb dX12_compare_2_4 rfl hl (by decide) rfl (fun ls hl => ?_)
  refine lv_aload_n hx hb dX12_compare_2_5 rfl (lv_at hl 3 rfl) ?_
  refine z_nV (n := 0) (As := []) (rest := []) C (hV.sub (fun q9 h9 => by simp at h9; rw [h9]; exact List.mem_cons_of_mem _ List.mem_cons_self) (fun q9 h9 => by cases h9)) (k_J14_intValue l D dA en (y) ((w : Int))) (lw_V q1260 q1261 q1262 q133 q1263) (by decide +kernel) rfl ⟨Nat.le_of_ble_eq_true rfl, Nat.le_of_ble_eq_true rfl⟩ hl.1 (hP.sub [] rfl) (hV.2.icell (List.mem_cons_of_mem _ List.mem_cons_self)) rfl (Nat.le_of_ble_eq_true rfl) dX12_compare_2_6 (Nat.zero_le _) (Nat.zero_le _) ?_
  refine lv_istore (lv' := [(4, .int (zI ((w : Nat) : Int))), (3, .int (zI ((v : Nat) : Int))), (0, .ref (a)), (1, .ref (x)), (2, .ref (y))]) hx hb dX12_compare_2_9 hl (by decide) rfl (fun ls hl => ?_)
  refine lv_iload_n hx hb dX12_compare_2_11 rfl (lv_at hl 1 rfl) ?_
  refine z_cSN (n := 1) (As := [.int (zI ((v : Nat) : Int))]) (rest := []) C (k_X0_many l D dA (v) (by first | with_reducible assumption | omega | with_reducible rfl)) (List.mem_of_getElem? (i := 6) rfl) q1266 q108 q1265 (by decide +kernel) rfl ⟨Nat.le_of_ble_eq_true rfl, Nat.le_of_ble_eq_true rfl⟩ hl.1 (hP.sub [] rfl) rfl (Nat.le_of_ble_eq_true rfl) dX12_compare_2_12 (Nat.zero_le _) (Nat.zero_le _) ?_
  refine lv_iload hx hb dX12_compare_2_15 (lv_at hl 0 rfl) ?_
  refine z_cSN (n := 1) (As := [.int (zI ((w : Nat) : Int))]) (rest := [.int (zI ((pop v : Nat) : Int))]) C (k_X0_many l D dA (w) (by first | with_reducible assumption | omega | with_reducible rfl)) (List.mem_of_getElem? (i := 6) rfl) q1266 q108 q1265 (by decide +kernel) rfl ⟨Nat.le_of_ble_eq_true rfl, Nat.le_of_ble_eq_true rfl⟩ hl.1 (hP.sub [] rfl) rfl (Nat.le_of_ble_eq_true rfl) dX12_compare_2_17 (Nat.zero_le _) (Nat.zero_le _) ?_
  refine z_icmp_eq (tgt := 34) C ⟨by omega, by omega⟩ ⟨by omega, by omega⟩ dX12_compare_2_20 (by decide) (fun c_20 => ?_) (fun c_20 => ?_)
  · refine lv_iload_n hx hb dX12_compare_2_34 rfl (lv_at hl 1 rfl) ?_
    refine z_cS (n := 1) (As := [.int (zI ((v : Nat) : Int))]) (rest := []) C (k_J14_numberOfTrailingZeros l D dA (v) (by first | with_reducible assumption | omega | with_reducible rfl) (by first | with_reducible assumption | omega | with_reducible rfl)) (lw_S q1273 q970 q133 q971) (by decide +kernel) rfl ⟨Nat.le_of_ble_eq_true rfl, Nat.le_of_ble_eq_true rfl⟩ hl.1 (hP.sub [] rfl) rfl (Nat.le_of_ble_eq_true rfl) dX12_compare_2_35 (Nat.zero_le _) (Nat.zero_le _) ?_
    refine lv_iload hx hb dX12_compare_2_38 (lv_at hl 0 rfl) ?_
    refine z_cS (n := 1) (As := [.int (zI ((w : Nat) : Int))]) (rest := [.int (zI ((tz v : Nat) : Int))]) C (k_J14_numberOfTrailingZeros l D dA (w) (by first | with_reducible assumption | omega | with_reducible rfl) (by first | with_reducible assumption | omega | with_reducible rfl)) (lw_S q1273 q970 q133 q971) (by decide +kernel) rfl ⟨Nat.le_of_ble_eq_true rfl, Nat.le_of_ble_eq_true rfl⟩ hl.1 (hP.sub [] rfl) rfl (Nat.le_of_ble_eq_true rfl) dX12_compare_2_40 (Nat.zero_le _) (Nat.zero_le _) ?_
    refine z_isub C dX12_compare_2_43 ?_
    exact z_iret C hlk hr hQ (by unfold grC; rw [if_pos (by omega)]) dX12_compare_2_44
  · refine lv_iload hx hb dX12_compare_2_23 (lv_at hl 0 rfl) ?_
    refine z_cSN (n := 1) (As := [.int (zI ((w : Nat) : Int))]) (rest := []) C (k_X0_many l D dA (w) (by first | with_reducible assumption | omega | with_reducible rfl)) (List.mem_of_getElem? (i := 6) rfl) q1266 q108 q1265 (by decide +kernel) rfl ⟨Nat.le_of_ble_eq_true rfl, Nat.le_of_ble_eq_true rfl⟩ hl.1 (hP.sub [] rfl) rfl (Nat.le_of_ble_eq_true rfl) dX12_compare_2_25 (Nat.zero_le _) (Nat.zero_le _) ?_
    refine lv_iload_n hx hb dX12_compare_2_28 rfl (lv_at hl 1 rfl) ?_
    refine z_cSN (n := 1) (As := [.int (zI ((v : Nat) : Int))]) (rest := [.int (zI ((pop w : Nat) : Int))]) C (k_X0_many l D dA (v) (by first | with_reducible assumption | omega | with_reducible rfl)) (List.mem_of_getElem? (i := 6) rfl) q1266 q108 q1265 (by decide +kernel) rfl ⟨Nat.le_of_ble_eq_true rfl, Nat.le_of_ble_eq_true rfl⟩ hl.1 (hP.sub [] rfl) rfl (Nat.le_of_ble_eq_true rfl) dX12_compare_2_29 (Nat.zero_le _) (Nat.zero_le _) ?_
    refine z_isub C dX12_compare_2_32 ?_
    exact z_iret C hlk hr hQ (by unfold grC; rw [if_neg (by omega)]) dX12_compare_2_33

set_option maxHeartbeats 600000 in
set_option maxRecDepth 100000 in
theorem k_X12_compare (l : Launch) (D : va_G) (dA : Nat → ClassId) (en : Nat → Nat → Nat) (a x y v w : Nat) (hv : 0 < v ∧ v < 65536) (hw : 0 < w ∧ w < 65536) : zN l yX12_compare cX12_compare 3 (some .int) (zRm 3 64) en ([(x, (v : Int)), (y, (w : Int))], [(a, "SpinStrip$Greater")]) D dA [.ref (a), .ref (x), .ref (y)] [] (some (.int (zI (grC v w)))) := by
  refine zN.of (by decide +kernel) rfl ?_
  intro pp ee ss mm args below meth cd Q C hr hlk hQ hV hP ls hl
  have hx := C.1.1
  have hb := C.1.2.1
  have hl : lv_has ls 3 [(0, .ref (a)), (1, .ref (x)), (2, .ref (y))] := hl
  refine lv_aload_n hx hb dX12_compare_0 rfl (lv_at hl 0 rfl) ?_
  refine lv_aload_n hx hb dX12_compare_1 rfl (lv_at hl 1 rfl) ?_
  refine z_castE C (hV.2.icell List.mem_cons_self) q1255 dX12_compare_2 ?_
  refine lv_aload_n hx hb dX12_compare_5 rfl (lv_at hl 2 rfl) ?_
  refine z_castE C (hV.2.icell (List.mem_cons_of_mem _ List.mem_cons_self)) q1255 dX12_compare_6 ?_
  refine z_nV (n := 2) (As := [.ref (x), .ref (y)]) (rest := []) C (hV.sub (fun q9 h9 => by exact h9) (fun q9 h9 => by cases h9)) (k_X12_compare_2 l D dA en (a) (x) (y) (v) (w) (by first | with_reducible assumption | omega | with_reducible rfl) (by first | with_reducible assumption | omega | with_reducible rfl)) (lw_V q1256 q1257 q1258 q148 q1259) (by decide +kernel) rfl ⟨Nat.le_of_ble_eq_true rfl, Nat.le_of_ble_eq_true rfl⟩ hl.1 (hP.sub [] rfl) (hV.2.cell List.mem_cons_self) rfl (Nat.le_of_ble_eq_true rfl) dX12_compare_9 (Nat.zero_le _) (Nat.zero_le _) ?_
  exact z_iret C hlk hr hQ (by first | rfl | omega) dX12_compare_12

set_option maxHeartbeats 600000 in
set_option maxRecDepth 100000 in
theorem k_X12_init (l : Launch) (D : va_G) (dA : Nat → ClassId) (a : Nat) : zG (S := Unit) l yX12_init cX12_init 1 (none) (zRmW 1 20 0 0) D dA [.ref (a)] [] (fun _ : Unit => none) (fun _ : Unit => True) (fun _ : Unit => []) := by
  refine zG.of (by decide +kernel) rfl ?_
  intro pp ee ss mm args below meth cd Q A C hr hlk hQ hA hin H locs hP hD hS ls hl
  have hx := C.1.1
  have hb := C.1.2.1
  have hl : lv_has ls 1 [(0, .ref (a))] := hl
  refine lv_aload_n hx hb dX12_init_0 rfl (lv_at hl 0 rfl) ?_
  refine z_obj C q1849 hl.1 (Nat.le_of_ble_eq_true rfl) (Nat.le_of_ble_eq_true rfl) dX12_init_1 ?_
  exact z_vretG C hlk hr hQ () rfl trivial (hP.sub [] rfl) (hD.sub [] (by decide) rfl) hS (Nat.le_of_ble_eq_true rfl) (Nat.le_of_ble_eq_true rfl) dX12_init_4
