/-- so many steps are enough -/
def gdP : Nat → Nat → Nat → Prop
  | 0, _, b => b = 0
  | d + 1, a, b => b = 0 ∨ gdP d b (a % b)
theorem gdP_of : ∀ (k a b : Nat), b < 2 ^ k → gdP (2 * k) a b := by
  intro k
  induction k with
  | zero => intro a b h; simp at h; exact h
  | succ k ih =>
    intro a b h
    rw [show 2 * (k + 1) = 2 * k + 1 + 1 by omega]
    rcases Nat.eq_zero_or_pos b with q | q
    · exact Or.inl q
    · refine Or.inr ?_
      rcases Nat.eq_zero_or_pos (a % b) with r | r
      · exact Or.inl r
      · refine Or.inr (ih _ _ ?_)
        have h1 := Nat.mod_lt a q
        have h2 := Nat.mod_lt b r
        rw [Nat.pow_succ] at h
        rcases Nat.lt_or_ge (2 * (a % b)) (b + 1) with c | c
        · omega
        · have h3 : b % (a % b) = b - a % b := by
            rw [Nat.mod_eq_sub_mod (by omega), Nat.mod_eq_of_lt (by omega)]
          omega
theorem gcd_st (x y : Nat) : Nat.gcd y (x % y) = Nat.gcd x y := by
  rw [Nat.gcd_comm x y, Nat.gcd_rec y x, Nat.gcd_comm]
set_option maxHeartbeats 600000 in
set_option maxRecDepth 100000 in
theorem k_X0_divisor_0 (l : Launch) (D : va_G) (dA : Nat → ClassId) (x y : Nat) (h1 : x < 2147483648) (h2 : y < 2147483648) (h0 : y = 0) : zM l yX0_divisor cX0_divisor 2 (some .int) (zRm 1 21) D dA [.int (zI ((x : Nat) : Int)), .int (zI ((y : Nat) : Int))] [] (some (.int (zI ((Nat.gcd x y : Nat) : Int)))) := by
  refine zM.of (by decide +kernel) rfl ?_
  intro pp ee ss mm args below meth cd Q C hr hlk hQ hP ls hl
  have hx := C.1.1
  have hb := C.1.2.1
  have hl : lv_has ls 2 [(0, .int (zI ((x : Nat) : Int))), (1, .int (zI ((y : Nat) : Int)))] := hl
  refine lv_iload_n hx hb dX0_divisor_0 rfl (lv_at hl 1 rfl) ?_
  refine z_if_ne (tgt := 8) C ⟨by omega, by omega⟩ dX0_divisor_1 (by decide) (fun c_1 => ?_) (fun c_1 => ?_)
  · exact absurd c_1 (by omega)
  · refine lv_iload_n hx hb dX0_divisor_4 rfl (lv_at hl 0 rfl) ?_
    refine lv_goto (tgt := 15) hx hb dX0_divisor_5 (by decide) ?_
    exact z_iret C hlk hr hQ (by rw [h0, Nat.gcd_zero_right]) dX0_divisor_15
set_option maxHeartbeats 600000 in
set_option maxRecDepth 100000 in
theorem k_X0_divisor_step (l : Launch) (D : va_G) (dA : Nat → ClassId) (d : Nat) (ih : ∀ (x y : Nat), (x < 2147483648) → (y < 2147483648) → (gdP d x y) → zM l yX0_divisor cX0_divisor 2 (some .int) (zRm (d + 1) (21 * (d) + 21)) D dA [.int (zI ((x : Nat) : Int)), .int (zI ((y : Nat) : Int))] [] (some (.int (zI ((Nat.gcd x y : Nat) : Int))))) (x y : Nat) (h1 : x < 2147483648) (h2 : y < 2147483648) (hd : gdP (d + 1) x y) : zM l yX0_divisor cX0_divisor 2 (some .int) (zRm (d + 1 + 1) (21 * (d + 1) + 21)) D dA [.int (zI ((x : Nat) : Int)), .int (zI ((y : Nat) : Int))] [] (some (.int (zI ((Nat.gcd x y : Nat) : Int)))) := by
  refine zM.of (by decide +kernel) rfl ?_
  intro pp ee ss mm args below meth cd Q C hr hlk hQ hP ls hl
  have hx := C.1.1
  have hb := C.1.2.1
  have hl : lv_has ls 2 [(0, .int (zI ((x : Nat) : Int))), (1, .int (zI ((y : Nat) : Int)))] := hl
  refine lv_iload_n hx hb dX0_divisor_0 rfl (lv_at hl 1 rfl) ?_
  refine z_if_ne (tgt := 8) C ⟨by omega, by omega⟩ dX0_divisor_1 (by decide) (fun c_1 => ?_) (fun c_1 => ?_)
  · have hd2 := hd.resolve_left (by omega)
    have hm9 := Nat.mod_lt x (show 0 < y by omega)
    refine lv_iload_n hx hb dX0_divisor_8 rfl (lv_at hl 1 rfl) ?_
    refine lv_iload_n hx hb dX0_divisor_9 rfl (lv_at hl 0 rfl) ?_
    refine lv_iload_n hx hb dX0_divisor_10 rfl (lv_at hl 1 rfl) ?_
    refine z_iremN C (x) (y) rfl rfl (by omega) ⟨by omega, by omega⟩ dX0_divisor_11 ?_
    refine z_cS (n := 2) (As := [.int (zI ((y : Nat) : Int)), .int (zI (((x % y) : Nat) : Int))]) (rest := []) C (ih (y) ((x % y)) (by first | with_reducible assumption | omega | with_reducible rfl) (by first | with_reducible assumption | omega | with_reducible rfl) hd2) (lw_S q1479 q1480 q108 q1481) (by decide +kernel) rfl ⟨by first | exact Nat.le_of_ble_eq_true rfl | (dsimp only; omega) | exact Nat.le_trans (m := 24) (Nat.le_of_ble_eq_true rfl) (by dsimp only; omega), by first | exact Nat.le_of_ble_eq_true rfl | (dsimp only; omega) | exact Nat.le_trans (m := 24) (Nat.le_of_ble_eq_true rfl) (by dsimp only; omega)⟩ hl.1 (hP.sub [] rfl) rfl (by first | exact Nat.le_of_ble_eq_true rfl | (dsimp only; omega) | exact Nat.le_trans (m := 24) (Nat.le_of_ble_eq_true rfl) (by dsimp only; omega)) dX0_divisor_12 (Nat.zero_le _) (Nat.zero_le _) ?_
    exact z_iret C hlk hr hQ (by first | (rw [show y = 0 by omega, Nat.gcd_zero_right]; done) | exact congrArg Nat.cast (gcd_st x y)) dX0_divisor_15
  · refine lv_iload_n hx hb dX0_divisor_4 rfl (lv_at hl 0 rfl) ?_
    refine lv_goto (tgt := 15) hx hb dX0_divisor_5 (by decide) ?_
    exact z_iret C hlk hr hQ (by first | (rw [show y = 0 by omega, Nat.gcd_zero_right]; done) | exact congrArg Nat.cast (gcd_st x y)) dX0_divisor_15
theorem k_X0_divisor (l : Launch) (D : va_G) (dA : Nat → ClassId) : ∀ (d : Nat) (x y : Nat), (x < 2147483648) → (y < 2147483648) → (gdP d x y) → zM l yX0_divisor cX0_divisor 2 (some .int) (zRm (d + 1) (21 * (d) + 21)) D dA [.int (zI ((x : Nat) : Int)), .int (zI ((y : Nat) : Int))] [] (some (.int (zI ((Nat.gcd x y : Nat) : Int)))) := by
  intro d
  induction d with
  | zero =>
    intro x y h1 h2 h3
    exact k_X0_divisor_0 l D dA x y h1 h2 h3
  | succ d ih =>
    intro x y h1 h2 h3
    exact k_X0_divisor_step l D dA d ih x y h1 h2 h3
set_option maxHeartbeats 600000 in
set_option maxRecDepth 100000 in
theorem k_X0_part (l : Launch) (D : va_G) (dA : Nat → ClassId) (x : Int) (y : Nat) (wh : Int) (h1 : -2000000000 ≤ x ∧ x ≤ 2000000000) (h2 : 0 < y ∧ y < 2147483648) (h3 : zR wh) : zM l yX0_part cX0_part 4 (some .int) (zRm 66 1386) D dA [.int (zI (x)), .int (zI ((y : Nat) : Int)), .int (zI (wh))] [] (some (.int (zI (if wh = 0 then Int.tdiv x ((Nat.gcd x.natAbs y : Nat) : Int) else ((y / Nat.gcd x.natAbs y : Nat) : Int))))) := by
  refine zM.of (by decide +kernel) rfl ?_
  intro pp ee ss mm args below meth cd Q C hr hlk hQ hP ls hl
  have hx := C.1.1
  have hb := C.1.2.1
  have hl : lv_has ls 4 [(0, .int (zI (x))), (1, .int (zI ((y : Nat) : Int))), (2, .int (zI (wh)))] := hl
  refine lv_iload_n hx hb dX0_part_0 rfl (lv_at hl 0 rfl) ?_
  refine z_mabs C ⟨by omega, by omega⟩ q1476 hl.1 (Nat.le_of_ble_eq_true rfl) (Nat.le_of_ble_eq_true rfl) (Nat.zero_le _) (Nat.zero_le _) dX0_part_1 ?_
  refine lv_iload_n hx hb dX0_part_4 rfl (lv_at hl 1 rfl) ?_
  refine z_cS (n := 2) (As := [.int (zI (((x).natAbs : Nat) : Int)), .int (zI ((y : Nat) : Int))]) (rest := []) C (k_X0_divisor l D dA (64) ((x).natAbs) (y) (by first | with_reducible assumption | omega | with_reducible rfl) (by first | with_reducible assumption | omega | with_reducible rfl) (gdP_of 32 _ _ (by omega))) (lw_S q1479 q1480 q108 q1481) (by decide +kernel) rfl ⟨Nat.le_of_ble_eq_true rfl, Nat.le_of_ble_eq_true rfl⟩ hl.1 (hP.sub [] rfl) rfl (Nat.le_of_ble_eq_true rfl) dX0_part_5 (Nat.zero_le _) (Nat.zero_le _) ?_
  refine z_nmN (fun gv_1 e_gv_1 => ?_)
  have g1 : 0 < gv_1 := by rw [e_gv_1]; exact Nat.gcd_pos_of_pos_right _ h2.1
  have g2 : gv_1 ≤ y := by rw [e_gv_1]; exact Nat.gcd_le_right _ h2.1
  refine lv_istore_n (lv' := [(3, .int (zI ((gv_1 : Nat) : Int))), (0, .int (zI (x))), (1, .int (zI ((y : Nat) : Int))), (2, .int (zI (wh)))]) hx hb dX0_part_8 rfl hl (by decide) rfl (fun ls hl => ?_)
  refine lv_iload_n hx hb dX0_part_9 rfl (lv_at hl 3 rfl) ?_
  refine z_if_ne (tgt := 19) C ⟨by omega, by omega⟩ dX0_part_10 (by decide) (fun c_10 => ?_) (fun c_10 => ?_)
  · refine lv_iload_n hx hb dX0_part_19 rfl (lv_at hl 2 rfl) ?_
    refine lv_iload_n hx hb dX0_part_20 rfl (lv_at hl 0 rfl) ?_
    refine z_idivN C (y) (gv_1) rfl rfl (by omega) ⟨by omega, by omega⟩ dX0_part_21 ?_
    exact z_iret C hlk hr hQ (by first | (rw [if_pos (by omega), ← e_gv_1]; done) | (rw [if_neg (by omega), ← e_gv_1]; done)) dX0_part_22
  · refine lv_iload_n hx hb dX0_part_13 rfl (lv_at hl 1 rfl) ?_
    refine lv_iload_n hx hb dX0_part_14 rfl (lv_at hl 0 rfl) ?_
    refine z_tidiv C ⟨by omega, by omega⟩ ⟨by omega, by omega⟩ (by omega) (by omega) dX0_part_15 ?_
    refine lv_goto (tgt := 22) hx hb dX0_part_16 (by decide) ?_
    exact z_iret C hlk hr hQ (by first | (rw [if_pos (by omega), ← e_gv_1]; done) | (rw [if_neg (by omega), ← e_gv_1]; done)) dX0_part_22
