set_option maxHeartbeats 600000 in
set_option maxRecDepth 100000 in
theorem k_X9_in (l : Launch) (D : va_G) (dA : Nat → ClassId) (v lo hi : Int) (h1 : zR v) (h2 : zR lo) (h3 : zR hi) : zM l yX9_in cX9_in 3 (some .boolean) (zRm 0 0) D dA [.int (zI (v)), .int (zI (lo)), .int (zI (hi))] [] (some (.int (zB (decide (lo ≤ v ∧ v ≤ hi))))) := by
  refine zM.of (by decide +kernel) rfl ?_
  intro pp ee ss mm args below meth cd Q C hr hlk hQ hP ls hl
  have hx := C.1.1
  have hb := C.1.2.1
  have hl : lv_has ls 3 [(0, .int (zI (v))), (1, .int (zI (lo))), (2, .int (zI (hi)))] := hl
  refine lv_iload_n hx hb dX9_in_0 rfl (lv_at hl 0 rfl) ?_
  refine lv_iload_n hx hb dX9_in_1 rfl (lv_at hl 1 rfl) ?_
  refine z_icmp_lt (tgt := 14) C ⟨by omega, by omega⟩ ⟨by omega, by omega⟩ dX9_in_2 (by decide) (fun c_2 => ?_) (fun c_2 => ?_)
  · refine z_iconst C dX9_in_14 ?_
    exact z_zret0 C hlk hr hQ (by simp; omega) dX9_in_15
  · refine lv_iload_n hx hb dX9_in_5 rfl (lv_at hl 0 rfl) ?_
    refine lv_iload_n hx hb dX9_in_6 rfl (lv_at hl 2 rfl) ?_
    refine z_icmp_gt (tgt := 14) C ⟨by omega, by omega⟩ ⟨by omega, by omega⟩ dX9_in_7 (by decide) (fun c_7 => ?_) (fun c_7 => ?_)
    · refine z_iconst C dX9_in_14 ?_
      exact z_zret0 C hlk hr hQ (by simp; omega) dX9_in_15
    · refine z_iconst C dX9_in_10 ?_
      refine lv_goto (tgt := 15) hx hb dX9_in_11 (by decide) ?_
      exact z_zret1 C hlk hr hQ (by simp; omega) dX9_in_15
set_option maxHeartbeats 600000 in
set_option maxRecDepth 100000 in
theorem k_X9_isDigit (l : Launch) (D : va_G) (dA : Nat → ClassId) (v : Int) (h1 : zR v) : zM l yX9_isDigit cX9_isDigit 1 (some .boolean) (zRm 0 0) D dA [.int (zI (v))] [] (some (.int (zB (decide (48 ≤ v ∧ v ≤ 57))))) := by
  refine zM.of (by decide +kernel) rfl ?_
  intro pp ee ss mm args below meth cd Q C hr hlk hQ hP ls hl
  have hx := C.1.1
  have hb := C.1.2.1
  have hl : lv_has ls 1 [(0, .int (zI (v)))] := hl
  refine lv_iload_n hx hb dX9_isDigit_0 rfl (lv_at hl 0 rfl) ?_
  refine z_bipush C dX9_isDigit_1 rfl ?_
  refine z_icmp_lt (tgt := 16) C ⟨by omega, by omega⟩ ⟨by decide, by decide⟩ dX9_isDigit_3 (by decide) (fun c_3 => ?_) (fun c_3 => ?_)
  · refine z_iconst C dX9_isDigit_16 ?_
    exact z_zret0 C hlk hr hQ (by simp; omega) dX9_isDigit_17
  · refine lv_iload_n hx hb dX9_isDigit_6 rfl (lv_at hl 0 rfl) ?_
    refine z_bipush C dX9_isDigit_7 rfl ?_
    refine z_icmp_gt (tgt := 16) C ⟨by omega, by omega⟩ ⟨by decide, by decide⟩ dX9_isDigit_9 (by decide) (fun c_9 => ?_) (fun c_9 => ?_)
    · refine z_iconst C dX9_isDigit_16 ?_
      exact z_zret0 C hlk hr hQ (by simp; omega) dX9_isDigit_17
    · refine z_iconst C dX9_isDigit_12 ?_
      refine lv_goto (tgt := 17) hx hb dX9_isDigit_13 (by decide) ?_
      exact z_zret1 C hlk hr hQ (by simp; omega) dX9_isDigit_17
set_option maxHeartbeats 600000 in
set_option maxRecDepth 100000 in
theorem k_X9_isLetter (l : Launch) (D : va_G) (dA : Nat → ClassId) (v : Int) (h1 : zR v) : zM l yX9_isLetter cX9_isLetter 1 (some .boolean) (zRm 0 0) D dA [.int (zI (v))] [] (some (.int (zB (decide (97 ≤ v ∧ v ≤ 122))))) := by
  refine zM.of (by decide +kernel) rfl ?_
  intro pp ee ss mm args below meth cd Q C hr hlk hQ hP ls hl
  have hx := C.1.1
  have hb := C.1.2.1
  have hl : lv_has ls 1 [(0, .int (zI (v)))] := hl
  refine lv_iload_n hx hb dX9_isLetter_0 rfl (lv_at hl 0 rfl) ?_
  refine z_bipush C dX9_isLetter_1 rfl ?_
  refine z_icmp_lt (tgt := 16) C ⟨by omega, by omega⟩ ⟨by decide, by decide⟩ dX9_isLetter_3 (by decide) (fun c_3 => ?_) (fun c_3 => ?_)
  · refine z_iconst C dX9_isLetter_16 ?_
    exact z_zret0 C hlk hr hQ (by simp; omega) dX9_isLetter_17
  · refine lv_iload_n hx hb dX9_isLetter_6 rfl (lv_at hl 0 rfl) ?_
    refine z_bipush C dX9_isLetter_7 rfl ?_
    refine z_icmp_gt (tgt := 16) C ⟨by omega, by omega⟩ ⟨by decide, by decide⟩ dX9_isLetter_9 (by decide) (fun c_9 => ?_) (fun c_9 => ?_)
    · refine z_iconst C dX9_isLetter_16 ?_
      exact z_zret0 C hlk hr hQ (by simp; omega) dX9_isLetter_17
    · refine z_iconst C dX9_isLetter_12 ?_
      refine lv_goto (tgt := 17) hx hb dX9_isLetter_13 (by decide) ?_
      exact z_zret1 C hlk hr hQ (by simp; omega) dX9_isLetter_17
set_option maxHeartbeats 600000 in
set_option maxRecDepth 100000 in
theorem k_X9_has (l : Launch) (D : va_G) (dA : Nat → ClassId) (s k : Nat) (h1 : s < 2147483648) (h2 : k < 32) : zM l yX9_has cX9_has 2 (some .boolean) (zRm 0 0) D dA [.int (zI ((s : Nat) : Int)), .int (zI ((k : Nat) : Int))] [] (some (.int (zB (s.testBit k)))) := by
  refine zM.of (by decide +kernel) rfl ?_
  intro pp ee ss mm args below meth cd Q C hr hlk hQ hP ls hl
  have hx := C.1.1
  have hb := C.1.2.1
  have hl : lv_has ls 2 [(0, .int (zI ((s : Nat) : Int))), (1, .int (zI ((k : Nat) : Int)))] := hl
  have hz : ((s >>> k) &&& 1 : Nat) ≤ 1 := Nat.and_le_right
  refine lv_iload_n hx hb dX9_has_0 rfl (lv_at hl 0 rfl) ?_
  refine lv_iload_n hx hb dX9_has_1 rfl (lv_at hl 1 rfl) ?_
  refine z_ishrN C (s) (k) rfl rfl (by omega) (by omega) dX9_has_2 ?_
  refine z_iconst C dX9_has_3 ?_
  refine z_iand C ((s >>> k)) (1) rfl rfl dX9_has_4 ?_
  refine z_iconst C dX9_has_5 ?_
  refine z_icmp_ne (tgt := 13) C ⟨by omega, by omega⟩ ⟨by decide, by decide⟩ dX9_has_6 (by decide) (fun c_6 => ?_) (fun c_6 => ?_)
  · refine z_iconst C dX9_has_13 ?_
    exact z_zret0 C hlk hr hQ (by cases hq : s.testBit k with | false => rfl | true => exact absurd ((tb_and1 s k).mpr hq) (by omega)) dX9_has_14
  · refine z_iconst C dX9_has_9 ?_
    refine lv_goto (tgt := 14) hx hb dX9_has_10 (by decide) ?_
    exact z_zret1 C hlk hr hQ ((tb_and1 s k).mp (by omega)) dX9_has_14
set_option maxHeartbeats 600000 in
set_option maxRecDepth 100000 in
theorem k_X9_bitsOf (l : Launch) (D : va_G) (dA : Nat → ClassId) (x : Nat) (h1 : x < 2147483648) : zM l yX9_bitsOf cX9_bitsOf 3 (some .int) (zRm 0 0) D dA [.int (zI ((x : Nat) : Int))] [] (some (.int (zI ((pop x : Nat) : Int)))) := by
  refine zM.of (by decide +kernel) rfl ?_
  intro pp ee ss mm args below meth cd Q C hr hlk hQ hP ls hl
  have hx := C.1.1
  have hb := C.1.2.1
  have hl : lv_has ls 3 [(0, .int (zI ((x : Nat) : Int)))] := hl
  refine z_iconst C dX9_bitsOf_0 ?_
  refine lv_istore_n (lv' := [(1, .int (zI 0)), (0, .int (zI ((x : Nat) : Int)))]) hx hb dX9_bitsOf_1 rfl hl (by decide) rfl (fun ls hl => ?_)
  refine lv_iload_n hx hb dX9_bitsOf_2 rfl (lv_at hl 1 rfl) ?_
  refine lv_istore_n (lv' := [(2, .int (zI ((x : Nat) : Int))), (1, .int (zI 0)), (0, .int (zI ((x : Nat) : Int)))]) hx hb dX9_bitsOf_3 rfl hl (by decide) rfl (fun ls hl => ?_)
  have L4 : ∀ (N : Nat) (f k nn : Nat), (pop x = nn + pcf f k) → (k < 2 ^ f) → (f ≤ 32) → (k ≤ x) → (k) < N → ∀ ls : Array Slot, lv_has ls 3 [(0, .int (zI ((x : Nat) : Int))), (1, .int (zI ((nn : Nat) : Int))), (2, .int (zI ((k : Nat) : Int)))] → W pp l ee (zRm 0 0) ss mm args below meth cd ss.heap [] 0 0 Q (F0 mm 4 ls []) := by
    intro N
    induction N with
    | zero => intro f k nn _ _ _ _ hm; exact absurd hm (Nat.not_lt_zero _)
    | succ N ih4 =>
      intro f k nn hs hk hf hx2 hm4 ls hl
      refine lv_iload_n hx hb dX9_bitsOf_4 rfl (lv_at hl 2 rfl) ?_
      refine z_if_le (tgt := 21) C ⟨by omega, by omega⟩ dX9_bitsOf_5 (by decide) (fun c_5 => ?_) (fun c_5 => ?_)
      · refine lv_iload_n hx hb dX9_bitsOf_21 rfl (lv_at hl 1 rfl) ?_
        exact z_iret C hlk hr hQ (by rw [hs, show k = 0 by omega, pcf_0]; rfl) dX9_bitsOf_22
      · have hb1 : k &&& 1 ≤ 1 := Nat.and_le_right
        have hp1 := pcf_le 32 x
        refine lv_iload_n hx hb dX9_bitsOf_8 rfl (lv_at hl 1 rfl) ?_
        refine lv_iload_n hx hb dX9_bitsOf_9 rfl (lv_at hl 2 rfl) ?_
        refine z_iconst C dX9_bitsOf_10 ?_
        refine z_iand C (k) (1) rfl rfl dX9_bitsOf_11 ?_
        refine z_iaddN C (nn) ((k &&& 1)) rfl rfl dX9_bitsOf_12 ?_
        refine lv_istore_n (lv' := [(1, .int (zI (((nn + (k &&& 1)) : Nat) : Int))), (0, .int (zI ((x : Nat) : Int))), (2, .int (zI ((k : Nat) : Int)))]) hx hb dX9_bitsOf_13 rfl hl (by decide) rfl (fun ls hl => ?_)
        have hk1 : k >>> 1 = k / 2 := sh1 k
        refine lv_iload_n hx hb dX9_bitsOf_14 rfl (lv_at hl 2 rfl) ?_
        refine z_iconst C dX9_bitsOf_15 ?_
        refine z_ishrN C (k) (1) rfl rfl (by omega) (by omega) dX9_bitsOf_16 ?_
        refine lv_istore_n (lv' := [(2, .int (zI (((k >>> 1) : Nat) : Int))), (1, .int (zI (((nn + (k &&& 1)) : Nat) : Int))), (0, .int (zI ((x : Nat) : Int)))]) hx hb dX9_bitsOf_17 rfl hl (by decide) rfl (fun ls hl => ?_)
        refine lv_goto (tgt := 4) hx hb dX9_bitsOf_18 (by decide) ?_
        exact ih4 (f - 1) ((k >>> 1)) ((nn + (k &&& 1))) (by obtain ⟨g, rfl⟩ : ∃ g, f = g + 1 := (fpos hk (by omega)); rw [hs]; simp only [pcf, Nat.add_sub_cancel]; rw [Nat.and_one_is_mod, sh1]; omega) (by obtain ⟨g, rfl⟩ : ∃ g, f = g + 1 := (fpos hk (by omega)); rw [Nat.add_sub_cancel, sh1]; rw [Nat.pow_succ] at hk; omega) (by first | with_reducible assumption | omega | with_reducible rfl) (by rw [sh1]; omega) (by omega) ls (lv_sub hl [2, 1, 0] rfl)
  exact L4 ((x) + 1) (32) (x) (0) (by unfold pop; omega) (by omega) (by first | with_reducible assumption | omega | with_reducible rfl) (by first | with_reducible assumption | omega | with_reducible rfl) (by omega) ls (lv_sub hl [2, 1, 0] rfl)
set_option maxHeartbeats 600000 in
set_option maxRecDepth 100000 in
theorem k_X9_leads (l : Launch) (D : va_G) (dA : Nat → ClassId) (k : Nat) (al : Bool) (w le : Nat) (ring : Bool) (hwl : w * le ≤ 16) (hk : k < w * le) : zM l yX9_leads cX9_leads 7 (some .int) (zRm 0 0) D dA [.int (zI ((k : Nat) : Int)), .int (zB (al)), .int (zI ((w : Nat) : Int)), .int (zI ((le : Nat) : Int)), .int (zB (ring))] [] (some (.int (zI (othB w le k al ring)))) := by
  refine zM.of (by decide +kernel) rfl ?_
  intro pp ee ss mm args below meth cd Q C hr hlk hQ hP ls hl
  have hx := C.1.1
  have hb := C.1.2.1
  have hl : lv_has ls 7 [(0, .int (zI ((k : Nat) : Int))), (1, .int (zB (al))), (2, .int (zI ((w : Nat) : Int))), (3, .int (zI ((le : Nat) : Int))), (4, .int (zB (ring)))] := hl
  obtain ⟨g1, g2, g3, g4, g5, g6⟩ := kw_lt hk
  have g7 : w ≤ 16 := by have := Nat.le_mul_of_pos_right w g2; omega
  have g8 : le ≤ 16 := by have := Nat.le_mul_of_pos_left le g1; omega
  refine lv_iload_n hx hb dX9_leads_0 rfl (lv_at hl 0 rfl) ?_
  refine lv_iload_n hx hb dX9_leads_1 rfl (lv_at hl 2 rfl) ?_
  refine z_idivN C (k) (w) rfl rfl (by omega) ⟨by omega, by omega⟩ dX9_leads_2 ?_
  refine z_nmN (fun rw_1 e_rw_1 => ?_)
  refine lv_istore (lv' := [(5, .int (zI ((rw_1 : Nat) : Int))), (0, .int (zI ((k : Nat) : Int))), (1, .int (zB (al))), (2, .int (zI ((w : Nat) : Int))), (3, .int (zI ((le : Nat) : Int))), (4, .int (zB (ring)))]) hx hb dX9_leads_3 hl (by decide) rfl (fun ls hl => ?_)
  refine lv_iload_n hx hb dX9_leads_5 rfl (lv_at hl 1 rfl) ?_
  refine lv_iload_n hx hb dX9_leads_6 rfl (lv_at hl 3 rfl) ?_
  refine z_iremN C (k) (w) rfl rfl (by omega) ⟨by omega, by omega⟩ dX9_leads_7 ?_
  refine z_nmN (fun cl_2 e_cl_2 => ?_)
  refine lv_istore (lv' := [(6, .int (zI ((cl_2 : Nat) : Int))), (5, .int (zI ((rw_1 : Nat) : Int))), (0, .int (zI ((k : Nat) : Int))), (1, .int (zB (al))), (2, .int (zI ((w : Nat) : Int))), (3, .int (zI ((le : Nat) : Int))), (4, .int (zB (ring)))]) hx hb dX9_leads_8 hl (by decide) rfl (fun ls hl => ?_)
  have hrw : rw_1 ≤ k := by rw [e_rw_1]; exact Nat.div_le_self _ _
  have hcl : cl_2 < w := by rw [e_cl_2]; exact g4
  clear g3 g4 g5 g6
  refine lv_iload_n hx hb dX9_leads_10 rfl (lv_at hl 3 rfl) ?_
  refine z_if_eqB (tgt := 45) C dX9_leads_11 (by decide) (fun c_11 => ?_) (fun c_11 => ?_)
  · refine lv_iload hx hb dX9_leads_45 (lv_at hl 0 rfl) ?_
    refine z_iconst C dX9_leads_47 ?_
    refine z_iaddN C (cl_2) (1) rfl rfl dX9_leads_48 ?_
    refine lv_iload_n hx hb dX9_leads_49 rfl (lv_at hl 4 rfl) ?_
    refine z_icmp_ge (tgt := 59) C ⟨by omega, by omega⟩ ⟨by omega, by omega⟩ dX9_leads_50 (by decide) (fun c_50 => ?_) (fun c_50 => ?_)
    · refine lv_iload hx hb dX9_leads_59 (lv_at hl 6 rfl) ?_
      refine z_if_eqB (tgt := 76) C dX9_leads_61 (by decide) (fun c_61 => ?_) (fun c_61 => ?_)
      · refine z_iconst C dX9_leads_76 ?_
        exact z_iret C hlk hr hQ (by subst c_11; first | (rw [othB_1 (by omega)]; done) | (rw [othB_2 (by omega) (by assumption) (by omega), e_cl_2]; done) | (rw [othB_3 (by omega) (by assumption)]; done) | (rw [othB_4 (by omega) (by omega)]; done) | (rw [othB_5 (by omega)]; done) | (rw [othB_6 (by omega) (by assumption) (by omega), e_rw_1]; done) | (rw [othB_7 (by omega) (by assumption)]; done) | (rw [othB_8 (by omega) (by omega)]; done)) dX9_leads_77
      · refine lv_iload_n hx hb dX9_leads_64 rfl (lv_at hl 4 rfl) ?_
        refine z_iconst C dX9_leads_65 ?_
        refine z_icmp_le (tgt := 76) C ⟨by omega, by omega⟩ ⟨by decide, by decide⟩ dX9_leads_66 (by decide) (fun c_66 => ?_) (fun c_66 => ?_)
        · refine z_iconst C dX9_leads_76 ?_
          exact z_iret C hlk hr hQ (by subst c_11; first | (rw [othB_1 (by omega)]; done) | (rw [othB_2 (by omega) (by assumption) (by omega), e_cl_2]; done) | (rw [othB_3 (by omega) (by assumption)]; done) | (rw [othB_4 (by omega) (by omega)]; done) | (rw [othB_5 (by omega)]; done) | (rw [othB_6 (by omega) (by assumption) (by omega), e_rw_1]; done) | (rw [othB_7 (by omega) (by assumption)]; done) | (rw [othB_8 (by omega) (by omega)]; done)) dX9_leads_77
        · refine lv_iload_n hx hb dX9_leads_69 rfl (lv_at hl 4 rfl) ?_
          refine lv_iload hx hb dX9_leads_70 (lv_at hl 1 rfl) ?_
          have hrm : w * rw_1 ≤ k := by rw [e_rw_1]; exact Nat.mul_div_le _ _
          refine z_imulN C (w) (rw_1) rfl rfl dX9_leads_72 ?_
          refine lv_goto (tgt := 77) hx hb dX9_leads_73 (by decide) ?_
          exact z_iret C hlk hr hQ (by subst c_11; first | (rw [othB_1 (by omega)]; done) | (rw [othB_2 (by omega) (by assumption) (by omega), e_cl_2]; done) | (rw [othB_3 (by omega) (by assumption)]; done) | (rw [othB_4 (by omega) (by omega)]; done) | (rw [othB_5 (by omega)]; done) | (rw [othB_6 (by omega) (by assumption) (by omega), e_rw_1]; done) | (rw [othB_7 (by omega) (by assumption)]; done) | (rw [othB_8 (by omega) (by omega)]; done)) dX9_leads_77
    · refine lv_iload_n hx hb dX9_leads_53 rfl (lv_at hl 2 rfl) ?_
      refine z_iconst C dX9_leads_54 ?_
      refine z_iaddN C (k) (1) rfl rfl dX9_leads_55 ?_
      refine lv_goto (tgt := 77) hx hb dX9_leads_56 (by decide) ?_
      exact z_iret C hlk hr hQ (by subst c_11; first | (rw [othB_1 (by omega)]; done) | (rw [othB_2 (by omega) (by assumption) (by omega), e_cl_2]; done) | (rw [othB_3 (by omega) (by assumption)]; done) | (rw [othB_4 (by omega) (by omega)]; done) | (rw [othB_5 (by omega)]; done) | (rw [othB_6 (by omega) (by assumption) (by omega), e_rw_1]; done) | (rw [othB_7 (by omega) (by assumption)]; done) | (rw [othB_8 (by omega) (by omega)]; done)) dX9_leads_77
  · refine lv_iload hx hb dX9_leads_14 (lv_at hl 1 rfl) ?_
    refine z_iconst C dX9_leads_16 ?_
    refine z_iaddN C (rw_1) (1) rfl rfl dX9_leads_17 ?_
    refine lv_iload_n hx hb dX9_leads_18 rfl (lv_at hl 5 rfl) ?_
    refine z_icmp_ge (tgt := 28) C ⟨by omega, by omega⟩ ⟨by omega, by omega⟩ dX9_leads_19 (by decide) (fun c_19 => ?_) (fun c_19 => ?_)
    · refine lv_iload hx hb dX9_leads_28 (lv_at hl 6 rfl) ?_
      refine z_if_eqB (tgt := 43) C dX9_leads_30 (by decide) (fun c_30 => ?_) (fun c_30 => ?_)
      · refine z_iconst C dX9_leads_43 ?_
        exact z_iret C hlk hr hQ (by subst c_11; first | (rw [othB_1 (by omega)]; done) | (rw [othB_2 (by omega) (by assumption) (by omega), e_cl_2]; done) | (rw [othB_3 (by omega) (by assumption)]; done) | (rw [othB_4 (by omega) (by omega)]; done) | (rw [othB_5 (by omega)]; done) | (rw [othB_6 (by omega) (by assumption) (by omega), e_rw_1]; done) | (rw [othB_7 (by omega) (by assumption)]; done) | (rw [othB_8 (by omega) (by omega)]; done)) dX9_leads_44
      · refine lv_iload_n hx hb dX9_leads_33 rfl (lv_at hl 5 rfl) ?_
        refine z_iconst C dX9_leads_34 ?_
        refine z_icmp_le (tgt := 43) C ⟨by omega, by omega⟩ ⟨by decide, by decide⟩ dX9_leads_35 (by decide) (fun c_35 => ?_) (fun c_35 => ?_)
        · refine z_iconst C dX9_leads_43 ?_
          exact z_iret C hlk hr hQ (by subst c_11; first | (rw [othB_1 (by omega)]; done) | (rw [othB_2 (by omega) (by assumption) (by omega), e_cl_2]; done) | (rw [othB_3 (by omega) (by assumption)]; done) | (rw [othB_4 (by omega) (by omega)]; done) | (rw [othB_5 (by omega)]; done) | (rw [othB_6 (by omega) (by assumption) (by omega), e_rw_1]; done) | (rw [othB_7 (by omega) (by assumption)]; done) | (rw [othB_8 (by omega) (by omega)]; done)) dX9_leads_44
        · refine lv_iload hx hb dX9_leads_38 (lv_at hl 0 rfl) ?_
          refine lv_goto (tgt := 44) hx hb dX9_leads_40 (by decide) ?_
          exact z_iret C hlk hr hQ (by subst c_11; first | (rw [othB_1 (by omega)]; done) | (rw [othB_2 (by omega) (by assumption) (by omega), e_cl_2]; done) | (rw [othB_3 (by omega) (by assumption)]; done) | (rw [othB_4 (by omega) (by omega)]; done) | (rw [othB_5 (by omega)]; done) | (rw [othB_6 (by omega) (by assumption) (by omega), e_rw_1]; done) | (rw [othB_7 (by omega) (by assumption)]; done) | (rw [othB_8 (by omega) (by omega)]; done)) dX9_leads_44
    · refine lv_iload_n hx hb dX9_leads_22 rfl (lv_at hl 2 rfl) ?_
      refine lv_iload_n hx hb dX9_leads_23 rfl (lv_at hl 4 rfl) ?_
      refine z_iaddN C (k) (w) rfl rfl dX9_leads_24 ?_
      refine lv_goto (tgt := 44) hx hb dX9_leads_25 (by decide) ?_
      exact z_iret C hlk hr hQ (by subst c_11; first | (rw [othB_1 (by omega)]; done) | (rw [othB_2 (by omega) (by assumption) (by omega), e_cl_2]; done) | (rw [othB_3 (by omega) (by assumption)]; done) | (rw [othB_4 (by omega) (by omega)]; done) | (rw [othB_5 (by omega)]; done) | (rw [othB_6 (by omega) (by assumption) (by omega), e_rw_1]; done) | (rw [othB_7 (by omega) (by assumption)]; done) | (rw [othB_8 (by omega) (by omega)]; done)) dX9_leads_44
set_option maxHeartbeats 600000 in
set_option maxRecDepth 100000 in
theorem k_X9_sites (l : Launch) (D : va_G) (dA : Nat → ClassId) (a : Nat) (v0 v1 v2 v3 v4 v5 v6 v7 v8 v9 v10 v11 v12 v13 v14 v15 v16 v22 v23 v24 v25 v26 v27 v28 v29 v30 v31 v32 v33 v34 v35 v36 v37 v38 v39 v40 v41 v42 v43 v44 : Value) (w le : Nat) (ra rl : Bool) (qn : Nat) : zM l yX9_sites cX9_sites 1 (some .int) (zRm 0 0) D dA [.ref (a)] [(a, .inr (9, [v0, v1, v2, v3, v4, v5, v6, v7, v8, v9, v10, v11, v12, v13, v14, v15, v16, .int (zI ((w : Nat) : Int)), .int (zI ((le : Nat) : Int)), .int (zB (ra)), .int (zB (rl)), .ref (qn), v22, v23, v24, v25, v26, v27, v28, v29, v30, v31, v32, v33, v34, v35, v36, v37, v38, v39, v40, v41, v42, v43, v44]))] (some (.int (zI ((w * le : Nat) : Int)))) := by
  refine zM.of (by decide +kernel) rfl ?_
  intro pp ee ss mm args below meth cd Q C hr hlk hQ hP ls hl
  have hx := C.1.1
  have hb := C.1.2.1
  have hl : lv_has ls 1 [(0, .ref (a))] := hl
  refine lv_aload_n hx hb dX9_sites_0 rfl (lv_at hl 0 rfl) ?_
  refine z_get C hP 0 rfl rfl in_X9 17 (by decide) q1901 rfl dX9_sites_1 ?_
  refine lv_aload_n hx hb dX9_sites_4 rfl (lv_at hl 0 rfl) ?_
  refine z_get C hP 0 rfl rfl in_X9 18 (by decide) q1902 rfl dX9_sites_5 ?_
  refine z_imulN C (w) (le) rfl rfl dX9_sites_8 ?_
  exact z_iret C hlk hr hQ (by first | rfl | omega) dX9_sites_9
set_option maxHeartbeats 600000 in
set_option maxRecDepth 100000 in
theorem k_X9_isSite (l : Launch) (D : va_G) (dA : Nat → ClassId) (a : Nat) (v0 v1 v2 v3 v4 v5 v6 v7 v8 v9 v10 v11 v12 v13 v14 v15 v16 v22 v23 v24 v25 v26 v27 v28 v29 v30 v31 v32 v33 v34 v35 v36 v37 v38 v39 v40 v41 v42 v43 v44 : Value) (w le : Nat) (ra rl : Bool) (qn : Nat) (k : Int) (hwl : w * le ≤ 16) (hk : zR k) : zM l yX9_isSite cX9_isSite 2 (some .boolean) (zRm 1 22) D dA [.ref (a), .int (zI (k))] [(a, .inr (9, [v0, v1, v2, v3, v4, v5, v6, v7, v8, v9, v10, v11, v12, v13, v14, v15, v16, .int (zI ((w : Nat) : Int)), .int (zI ((le : Nat) : Int)), .int (zB (ra)), .int (zB (rl)), .ref (qn), v22, v23, v24, v25, v26, v27, v28, v29, v30, v31, v32, v33, v34, v35, v36, v37, v38, v39, v40, v41, v42, v43, v44]))] (some (.int (zB (decide (0 ≤ k ∧ k < ((w * le : Nat) : Int)))))) := by
  refine zM.of (by decide +kernel) rfl ?_
  intro pp ee ss mm args below meth cd Q C hr hlk hQ hP ls hl
  have hx := C.1.1
  have hb := C.1.2.1
  have hl : lv_has ls 2 [(0, .ref (a)), (1, .int (zI (k)))] := hl
  refine lv_iload_n hx hb dX9_isSite_0 rfl (lv_at hl 1 rfl) ?_
  refine z_iconst C dX9_isSite_1 ?_
  refine lv_aload_n hx hb dX9_isSite_2 rfl (lv_at hl 0 rfl) ?_
  refine z_cV (n := 0) (As := []) (rest := [.int (zI 0), .int (zI (k))]) C hP (k_X9_sites l D dA (a) (v0) (v1) (v2) (v3) (v4) (v5) (v6) (v7) (v8) (v9) (v10) (v11) (v12) (v13) (v14) (v15) (v16) (v22) (v23) (v24) (v25) (v26) (v27) (v28) (v29) (v30) (v31) (v32) (v33) (v34) (v35) (v36) (v37) (v38) (v39) (v40) (v41) (v42) (v43) (v44) (w) (le) (ra) (rl) (qn)) (lw_V q2112 q2114 qs80 q124 q2115) (by decide +kernel) rfl ⟨Nat.le_of_ble_eq_true rfl, Nat.le_of_ble_eq_true rfl⟩ hl.1 (hP.sub [0] rfl) 0 rfl rfl rfl (Nat.le_of_ble_eq_true rfl) dX9_isSite_3 (Nat.zero_le _) (Nat.zero_le _) ?_
  refine z_iconst C dX9_isSite_6 ?_
  refine z_isub C dX9_isSite_7 ?_
  refine z_cS (n := 3) (As := [.int (zI (k)), .int (zI 0), .int (zI (((w * le : Nat) : Int) - 1))]) (rest := []) C (k_X9_in l D dA ((k)) (0) ((((w * le : Nat) : Int) - 1)) (by first | with_reducible assumption | omega | with_reducible rfl) (by first | with_reducible assumption | omega | with_reducible rfl) (by first | with_reducible assumption | omega | with_reducible rfl)) (lw_S q2090 q2091 q124 q2092) (by decide +kernel) rfl ⟨Nat.le_of_ble_eq_true rfl, Nat.le_of_ble_eq_true rfl⟩ hl.1 (hP.sub [] rfl) rfl (Nat.le_of_ble_eq_true rfl) dX9_isSite_8 (Nat.zero_le _) (Nat.zero_le _) ?_
  exact z_zretB C hlk hr hQ (by rw [decide_eq_decide]; omega) dX9_isSite_11
set_option maxHeartbeats 600000 in
set_option maxRecDepth 100000 in
theorem k_X9_tieTo (l : Launch) (D : va_G) (dA : Nat → ClassId) (a : Nat) (v0 v1 v2 v3 v4 v5 v6 v7 v8 v9 v10 v11 v12 v13 v14 v15 v16 v22 v23 v24 v25 v26 v27 v28 v29 v30 v31 v32 v33 v34 v35 v36 v37 v38 v39 v40 v41 v42 v43 v44 : Value) (w le : Nat) (ra rl : Bool) (qn : Nat) (k : Nat) (al : Bool) (hwl : w * le ≤ 16) (hk : k < w * le) : zM l yX9_tieTo cX9_tieTo 3 (some .int) (zRm 1 26) D dA [.ref (a), .int (zI ((k : Nat) : Int)), .int (zB (al))] [(a, .inr (9, [v0, v1, v2, v3, v4, v5, v6, v7, v8, v9, v10, v11, v12, v13, v14, v15, v16, .int (zI ((w : Nat) : Int)), .int (zI ((le : Nat) : Int)), .int (zB (ra)), .int (zB (rl)), .ref (qn), v22, v23, v24, v25, v26, v27, v28, v29, v30, v31, v32, v33, v34, v35, v36, v37, v38, v39, v40, v41, v42, v43, v44]))] (some (.int (zI (oth w le (rgOf ra rl) k al)))) := by
  refine zM.of (by decide +kernel) rfl ?_
  intro pp ee ss mm args below meth cd Q C hr hlk hQ hP ls hl
  have hx := C.1.1
  have hb := C.1.2.1
  have hl : lv_has ls 3 [(0, .ref (a)), (1, .int (zI ((k : Nat) : Int))), (2, .int (zB (al)))] := hl
  refine lv_iload_n hx hb dX9_tieTo_0 rfl (lv_at hl 1 rfl) ?_
  refine lv_iload_n hx hb dX9_tieTo_1 rfl (lv_at hl 2 rfl) ?_
  refine lv_aload_n hx hb dX9_tieTo_2 rfl (lv_at hl 0 rfl) ?_
  refine z_get C hP 0 rfl rfl in_X9 17 (by decide) q1901 rfl dX9_tieTo_3 ?_
  refine lv_aload_n hx hb dX9_tieTo_6 rfl (lv_at hl 0 rfl) ?_
  refine z_get C hP 0 rfl rfl in_X9 18 (by decide) q1902 rfl dX9_tieTo_7 ?_
  refine lv_iload_n hx hb dX9_tieTo_10 rfl (lv_at hl 2 rfl) ?_
  refine z_if_eqB (tgt := 21) C dX9_tieTo_11 (by decide) (fun c_11 => ?_) (fun c_11 => ?_)
  · refine lv_aload_n hx hb dX9_tieTo_21 rfl (lv_at hl 0 rfl) ?_
    refine z_get C hP 0 rfl rfl in_X9 19 (by decide) q1903 rfl dX9_tieTo_22 ?_
    refine z_cS (n := 5) (As := [.int (zI ((k : Nat) : Int)), .int (zB (al)), .int (zI ((w : Nat) : Int)), .int (zI ((le : Nat) : Int)), .int (zB (ra))]) (rest := []) C (k_X9_leads l D dA (k) (al) (w) (le) (ra) (by first | with_reducible assumption | omega | with_reducible rfl) (by first | with_reducible assumption | omega | with_reducible rfl)) (lw_S q2109 q2110 q124 q2111) (by decide +kernel) rfl ⟨Nat.le_of_ble_eq_true rfl, Nat.le_of_ble_eq_true rfl⟩ hl.1 (hP.sub [] rfl) rfl (Nat.le_of_ble_eq_true rfl) dX9_tieTo_25 (Nat.zero_le _) (Nat.zero_le _) ?_
    exact z_iret C hlk hr hQ (by subst c_11; first | rw [oth_B1] | rw [oth_B0]) dX9_tieTo_28
  · refine lv_aload_n hx hb dX9_tieTo_14 rfl (lv_at hl 0 rfl) ?_
    refine z_get C hP 0 rfl rfl in_X9 20 (by decide) q1904 rfl dX9_tieTo_15 ?_
    refine lv_goto (tgt := 25) hx hb dX9_tieTo_18 (by decide) ?_
    refine z_cS (n := 5) (As := [.int (zI ((k : Nat) : Int)), .int (zB (al)), .int (zI ((w : Nat) : Int)), .int (zI ((le : Nat) : Int)), .int (zB (rl))]) (rest := []) C (k_X9_leads l D dA (k) (al) (w) (le) (rl) (by first | with_reducible assumption | omega | with_reducible rfl) (by first | with_reducible assumption | omega | with_reducible rfl)) (lw_S q2109 q2110 q124 q2111) (by decide +kernel) rfl ⟨Nat.le_of_ble_eq_true rfl, Nat.le_of_ble_eq_true rfl⟩ hl.1 (hP.sub [] rfl) rfl (Nat.le_of_ble_eq_true rfl) dX9_tieTo_25 (Nat.zero_le _) (Nat.zero_le _) ?_
    exact z_iret C hlk hr hQ (by subst c_11; first | rw [oth_B1] | rw [oth_B0]) dX9_tieTo_28
set_option maxHeartbeats 600000 in
set_option maxRecDepth 100000 in
theorem k_X9_jOf (l : Launch) (D : va_G) (dA : Nat → ClassId) (q : Nat) (f : Nat → Int) (k : Nat) (al : Bool) (hk : k < 16) : zM l yX9_jOf cX9_jOf 3 (some .int) (zRm 0 0) D dA [.ref (q), .int (zI ((k : Nat) : Int)), .int (zB (al))] [(q, .inl (dA 3, 66, .inl (fun j => zI (f j))))] (some (.int (zI (jw f (fun j => f (16 + j)) k al)))) := by
  refine zM.of (by decide +kernel) rfl ?_
  intro pp ee ss mm args below meth cd Q C hr hlk hQ hP ls hl
  have hx := C.1.1
  have hb := C.1.2.1
  have hl : lv_has ls 3 [(0, .ref (q)), (1, .int (zI ((k : Nat) : Int))), (2, .int (zB (al)))] := hl
  refine lv_aload_n hx hb dX9_jOf_0 rfl (lv_at hl 0 rfl) ?_
  refine lv_iload_n hx hb dX9_jOf_1 rfl (lv_at hl 2 rfl) ?_
  refine z_if_eqB (tgt := 10) C dX9_jOf_2 (by decide) (fun c_2 => ?_) (fun c_2 => ?_)
  · refine z_iconst C dX9_jOf_10 ?_
    refine lv_iload_n hx hb dX9_jOf_11 rfl (lv_at hl 1 rfl) ?_
    refine z_iadd0 C dX9_jOf_12 ?_
    refine z_iald C hP 0 rfl (k) rfl (by omega) (by decide) dX9_jOf_13 ?_
    exact z_iret C hlk hr hQ (by subst c_2; unfold jw; first | rfl | simp) dX9_jOf_14
  · refine z_bipush C dX9_jOf_5 rfl ?_
    refine lv_goto (tgt := 11) hx hb dX9_jOf_7 (by decide) ?_
    refine lv_iload_n hx hb dX9_jOf_11 rfl (lv_at hl 1 rfl) ?_
    refine z_iaddN C (16) (k) rfl rfl dX9_jOf_12 ?_
    refine z_iald C hP 0 rfl ((16 + k)) rfl (by omega) (by decide) dX9_jOf_13 ?_
    exact z_iret C hlk hr hQ (by subst c_2; unfold jw; first | rfl | simp) dX9_jOf_14
set_option maxHeartbeats 600000 in
set_option maxRecDepth 100000 in
theorem k_X9_nextOf (l : Launch) (D : va_G) (dA : Nat → ClassId) (x : Int) (h : 0 ≤ x ∧ x ≤ 2147483648) : zM l yX9_nextOf cX9_nextOf 2 (some .long) (zRm 0 0) D dA [.long (lI (x))] [] (some (.long (lI ((x * 1103515245 + 12345) % 2147483648)))) := by
  refine zM.of (by decide +kernel) rfl ?_
  intro pp ee ss mm args below meth cd Q C hr hlk hQ hP ls hl
  have hx := C.1.1
  have hb := C.1.2.1
  have hl : lv_has ls 2 [(0, .long (lI (x)))] := hl
  refine lv_lload_n hx hb dX9_nextOf_0 rfl (lv_at hl 0 rfl) ?_
  refine z_ldc2 C (1103515245) q2154 rfl dX9_nextOf_1 ?_
  refine z_lmul C dX9_nextOf_4 ?_
  refine z_ldc2 C (12345) q2155 rfl dX9_nextOf_5 ?_
  refine z_ladd C dX9_nextOf_8 ?_
  refine z_ldc2 C (2147483648) q2156 rfl dX9_nextOf_9 ?_
  refine z_lrem C ⟨by omega, by omega⟩ ⟨by omega, by omega⟩ dX9_nextOf_12 ?_
  exact z_lret C hlk hr hQ (by first | rfl | omega) dX9_nextOf_13
set_option maxHeartbeats 600000 in
set_option maxRecDepth 100000 in
theorem k_X9_energy (l : Launch) (D : va_G) (dA : Nat → ClassId) (a : Nat) (v0 v1 v2 v3 v4 v5 v6 v7 v8 v9 v10 v11 v12 v13 v14 v15 v16 v22 v23 v24 v25 v26 v27 v28 v29 v30 v31 v32 v33 v34 v35 v36 v37 v38 v39 v40 v41 v42 v43 v44 : Value) (w le : Nat) (ra rl : Bool) (qn : Nat) (qo : Nat) (f : Nat → Int) (s0 rows : Nat) (hwl : w * le ≤ 16) (hwr : w * rows ≤ w * le) (hs0 : s0 < 2147483648) (hrw : rows ≤ 16) (hle : le ≤ 16) : zM l yX9_energy cX9_energy 8 (some .int) (zRm 2 48) D dA [.ref (a), .ref (qo), .int (zI ((s0 : Nat) : Int)), .int (zI ((rows : Nat) : Int))] [(a, .inr (9, [v0, v1, v2, v3, v4, v5, v6, v7, v8, v9, v10, v11, v12, v13, v14, v15, v16, .int (zI ((w : Nat) : Int)), .int (zI ((le : Nat) : Int)), .int (zB (ra)), .int (zB (rl)), .ref (qn), v22, v23, v24, v25, v26, v27, v28, v29, v30, v31, v32, v33, v34, v35, v36, v37, v38, v39, v40, v41, v42, v43, v44])), (qo, .inl (dA 3, 66, .inl (fun j => zI (f j))))] (some (.int (zI (enN w le (rgOf ra rl) rows f s0 (w * rows))))) := by
  refine zM.of (by decide +kernel) rfl ?_
  intro pp ee ss mm args below meth cd Q C hr hlk hQ hP ls hl
  have hx := C.1.1
  have hb := C.1.2.1
  have hl : lv_has ls 8 [(0, .ref (a)), (1, .ref (qo)), (2, .int (zI ((s0 : Nat) : Int))), (3, .int (zI ((rows : Nat) : Int)))] := hl
  refine z_iconst C dX9_energy_0 ?_
  refine lv_istore (lv' := [(4, .int (zI 0)), (0, .ref (a)), (1, .ref (qo)), (2, .int (zI ((s0 : Nat) : Int))), (3, .int (zI ((rows : Nat) : Int)))]) hx hb dX9_energy_1 hl (by decide) rfl (fun ls hl => ?_)
  refine z_iconst C dX9_energy_3 ?_
  refine lv_istore (lv' := [(5, .int (zI 0)), (4, .int (zI 0)), (0, .ref (a)), (1, .ref (qo)), (2, .int (zI ((s0 : Nat) : Int))), (3, .int (zI ((rows : Nat) : Int)))]) hx hb dX9_energy_4 hl (by decide) rfl (fun ls hl => ?_)
  have L6 : ∀ (N : Nat) (i : Nat) (sm : Int), (i ≤ w * rows) → (sm = enN w le (rgOf ra rl) rows f s0 i) → (w * rows - i) < N → ∀ ls : Array Slot, lv_has ls 8 [(0, .ref (a)), (1, .ref (qo)), (2, .int (zI ((s0 : Nat) : Int))), (3, .int (zI ((rows : Nat) : Int))), (4, .int (zI (sm))), (5, .int (zI ((i : Nat) : Int)))] → W pp l ee (zRm 2 48) ss mm args below meth cd ss.heap [] 0 0 Q (F0 mm 6 ls []) := by
    intro N
    induction N with
    | zero => intro i sm _ _ hm; exact absurd hm (Nat.not_lt_zero _)
    | succ N ih6 =>
      intro i sm hi hs hm6 ls hl
      refine lv_iload hx hb dX9_energy_6 (lv_at hl 5 rfl) ?_
      refine lv_aload_n hx hb dX9_energy_8 rfl (lv_at hl 0 rfl) ?_
      refine z_get C hP 0 rfl rfl in_X9 17 (by decide) q1901 rfl dX9_energy_9 ?_
      refine lv_iload_n hx hb dX9_energy_12 rfl (lv_at hl 3 rfl) ?_
      refine z_imulN C (w) (rows) rfl rfl dX9_energy_13 ?_
      refine z_icmp_ge (tgt := 183) C ⟨by omega, by omega⟩ ⟨by omega, by omega⟩ dX9_energy_14 (by decide) (fun c_14 => ?_) (fun c_14 => ?_)
      · refine lv_iload hx hb dX9_energy_183 (lv_at hl 4 rfl) ?_
        exact z_iret C hlk hr hQ (by rw [hs]; congr 1; omega) dX9_energy_185
      · have hk : i < w * le := by omega
        refine lv_iload_n hx hb dX9_energy_17 rfl (lv_at hl 2 rfl) ?_
        refine lv_iload hx hb dX9_energy_18 (lv_at hl 5 rfl) ?_
        refine z_ishrN C (s0) (i) rfl rfl (by omega) (by omega) dX9_energy_20 ?_
        refine z_iconst C dX9_energy_21 ?_
        refine z_iand C ((s0 >>> i)) (1) rfl rfl dX9_energy_22 ?_
        refine z_nmN (fun bt_1 e_bt_1 => ?_)
        have hbt := tb_le s0 i
        rw [← e_bt_1] at hbt
        have hbi := tb_and1 s0 i
        rw [← e_bt_1] at hbi
        refine lv_istore (lv' := [(6, .int (zI ((bt_1 : Nat) : Int))), (0, .ref (a)), (1, .ref (qo)), (2, .int (zI ((s0 : Nat) : Int))), (3, .int (zI ((rows : Nat) : Int))), (4, .int (zI (sm))), (5, .int (zI ((i : Nat) : Int)))]) hx hb dX9_energy_23 hl (by decide) rfl (fun ls hl => ?_)
        have J54 : ∀ (s1 : Int), (s1 = enN w le (rgOf ra rl) rows f s0 i + enX (f (32 + i)) true (s0.testBit i)) → ∀ ls : Array Slot, lv_has ls 8 [(6, .int (zI ((bt_1 : Nat) : Int))), (0, .ref (a)), (1, .ref (qo)), (2, .int (zI ((s0 : Nat) : Int))), (3, .int (zI ((rows : Nat) : Int))), (4, .int (zI (s1))), (5, .int (zI ((i : Nat) : Int)))] → W pp l ee (zRm 2 48) ss mm args below meth cd ss.heap [] 0 0 Q (F0 mm 54 ls []) := by
          intro s1 hs1 ls hl
          have J100 : ∀ (s2 : Int), (s2 = enN w le (rgOf ra rl) rows f s0 i + enX (f (32 + i)) true (s0.testBit i) + enT1 w le (rgOf ra rl) f s0 i) → ∀ ls : Array Slot, lv_has ls 8 [(6, .int (zI ((bt_1 : Nat) : Int))), (0, .ref (a)), (1, .ref (qo)), (2, .int (zI ((s0 : Nat) : Int))), (3, .int (zI ((rows : Nat) : Int))), (4, .int (zI (s2))), (5, .int (zI ((i : Nat) : Int)))] → W pp l ee (zRm 2 48) ss mm args below meth cd ss.heap [] 0 0 Q (F0 mm 100 ls []) := by
            intro s2 hs2 ls hl
            have J177 : ∀ (s3 : Int), (s3 = enN w le (rgOf ra rl) rows f s0 i + enX (f (32 + i)) true (s0.testBit i) + enT1 w le (rgOf ra rl) f s0 i + enT2 w le (rgOf ra rl) rows f s0 i) → ∀ ls : Array Slot, lv_has ls 8 [(6, .int (zI ((bt_1 : Nat) : Int))), (0, .ref (a)), (1, .ref (qo)), (2, .int (zI ((s0 : Nat) : Int))), (3, .int (zI ((rows : Nat) : Int))), (4, .int (zI (s3))), (5, .int (zI ((i : Nat) : Int)))] → W pp l ee (zRm 2 48) ss mm args below meth cd ss.heap [] 0 0 Q (F0 mm 177 ls []) := by
              intro s3 hs3 ls hl
              refine lv_iinc (v := zI ((i + 1 : Nat) : Int)) (lv' := [(5, .int (zI ((i + 1 : Nat) : Int))), (6, .int (zI ((bt_1 : Nat) : Int))), (0, .ref (a)), (1, .ref (qo)), (2, .int (zI ((s0 : Nat) : Int))), (3, .int (zI ((rows : Nat) : Int))), (4, .int (zI (s3)))]) hx hb dX9_energy_177 hl (k := 6) rfl (zI_inc (by omega)) (by decide) rfl (fun ls hl => ?_)
              refine lv_goto (tgt := 6) hx hb dX9_energy_180 (by decide) ?_
              exact ih6 (i + 1) ((s3)) (by first | with_reducible assumption | omega | with_reducible rfl) (by simp only [enN]; omega) (by omega) ls (lv_sub hl [2, 3, 4, 5, 6, 0] rfl)
            refine lv_aload_n hx hb dX9_energy_100 rfl (lv_at hl 1 rfl) ?_
            refine lv_iload hx hb dX9_energy_101 (lv_at hl 6 rfl) ?_
            refine z_iconst C dX9_energy_103 ?_
            refine z_cV (n := 2) (As := [.int (zI ((i : Nat) : Int)), .int (zI 1)]) (rest := []) C hP (k_X9_tieTo l D dA (a) (v0) (v1) (v2) (v3) (v4) (v5) (v6) (v7) (v8) (v9) (v10) (v11) (v12) (v13) (v14) (v15) (v16) (v22) (v23) (v24) (v25) (v26) (v27) (v28) (v29) (v30) (v31) (v32) (v33) (v34) (v35) (v36) (v37) (v38) (v39) (v40) (v41) (v42) (v43) (v44) (w) (le) (ra) (rl) (qn) (i) (true) (by first | with_reducible assumption | omega | with_reducible rfl) (by first | with_reducible assumption | omega | with_reducible rfl)) (lw_V q2128 q2130 qs82 q124 q2131) (by decide +kernel) rfl ⟨Nat.le_of_ble_eq_true rfl, Nat.le_of_ble_eq_true rfl⟩ hl.1 (hP.sub [0] rfl) 0 rfl rfl rfl (Nat.le_of_ble_eq_true rfl) dX9_energy_104 (Nat.zero_le _) (Nat.zero_le _) ?_
            refine z_nm (fun to_2 e_to_2 => ?_)
            have o_to_2 := oth_lt (rgOf ra rl) true hk
            rw [← e_to_2] at o_to_2
            refine lv_istore (lv' := [(7, .int (zI (to_2))), (6, .int (zI ((bt_1 : Nat) : Int))), (0, .ref (a)), (1, .ref (qo)), (2, .int (zI ((s0 : Nat) : Int))), (3, .int (zI ((rows : Nat) : Int))), (4, .int (zI (s2))), (5, .int (zI ((i : Nat) : Int)))]) hx hb dX9_energy_107 hl (by decide) rfl (fun ls hl => ?_)
            refine lv_iload hx hb dX9_energy_109 (lv_at hl 0 rfl) ?_
            refine z_if_lt (tgt := 177) C ⟨by omega, by omega⟩ dX9_energy_111 (by decide) (fun c_111 => ?_) (fun c_111 => ?_)
            · exact J177 ((s2)) (by have e9 := e_to_2; first | (have h8 := enT2_neg (rows := rows) (f := f) (s := s0) e9 c_111; omega) | (have h8 := enT2_out1 (f := f) (s := s0) e9 (by omega) (show w * rows ≤ to_2n by omega); omega) | (have h8 := enT2_out2 (rows := rows) (f := f) (s := s0) e9 (by omega) (by omega); omega) | ((first | have h7 := enT2_in1 (f := f) (s := s0) e9 (by omega) (show to_2n < w * rows by omega) | have h7 := enT2_in2 (rows := rows) (f := f) (s := s0) e9 (by omega) (by omega)); first | (have h8 := enX_eq (v := f (16 + i)) ((tb_eq s0 to_2n i).mp (by omega)); omega) | (have h8 := enX_ne (v := f (16 + i)) (fun q => c_153 (by have := (tb_eq s0 to_2n i).mpr q; omega)); omega))) ls (lv_sub hl [1, 2, 3, 4, 5, 6, 7] rfl)
            · obtain ⟨to_2n, rfl⟩ : ∃ q : Nat, to_2 = (q : Int) := ⟨to_2.toNat, by omega⟩
              refine lv_iload hx hb dX9_energy_114 (lv_at hl 0 rfl) ?_
              refine lv_iload hx hb dX9_energy_116 (lv_at hl 7 rfl) ?_
              refine z_icmp_le (tgt := 135) C ⟨by omega, by omega⟩ ⟨by omega, by omega⟩ dX9_energy_118 (by decide) (fun c_118 => ?_) (fun c_118 => ?_)
              · refine lv_iload_n hx hb dX9_energy_135 rfl (lv_at hl 5 rfl) ?_
                refine lv_aload_n hx hb dX9_energy_136 rfl (lv_at hl 2 rfl) ?_
                refine z_get C hP 0 rfl rfl in_X9 18 (by decide) q1902 rfl dX9_energy_137 ?_
                refine z_icmp_ne (tgt := 177) C ⟨by omega, by omega⟩ ⟨by omega, by omega⟩ dX9_energy_140 (by decide) (fun c_140 => ?_) (fun c_140 => ?_)
                · exact J177 ((s2)) (by have e9 := e_to_2; first | (have h8 := enT2_neg (rows := rows) (f := f) (s := s0) e9 c_111; omega) | (have h8 := enT2_out1 (f := f) (s := s0) e9 (by omega) (show w * rows ≤ to_2n by omega); omega) | (have h8 := enT2_out2 (rows := rows) (f := f) (s := s0) e9 (by omega) (by omega); omega) | ((first | have h7 := enT2_in1 (f := f) (s := s0) e9 (by omega) (show to_2n < w * rows by omega) | have h7 := enT2_in2 (rows := rows) (f := f) (s := s0) e9 (by omega) (by omega)); first | (have h8 := enX_eq (v := f (16 + i)) ((tb_eq s0 to_2n i).mp (by omega)); omega) | (have h8 := enX_ne (v := f (16 + i)) (fun q => c_153 (by have := (tb_eq s0 to_2n i).mpr q; omega)); omega))) ls (lv_sub hl [1, 2, 3, 4, 5, 6, 7] rfl)
                · refine lv_iload hx hb dX9_energy_143 (lv_at hl 6 rfl) ?_
                  refine lv_iload_n hx hb dX9_energy_145 rfl (lv_at hl 4 rfl) ?_
                  refine lv_iload hx hb dX9_energy_146 (lv_at hl 0 rfl) ?_
                  refine z_ishrN C (s0) (to_2n) rfl rfl (by omega) (by omega) dX9_energy_148 ?_
                  refine z_iconst C dX9_energy_149 ?_
                  refine z_iand C ((s0 >>> to_2n)) (1) rfl rfl dX9_energy_150 ?_
                  refine z_nmN (fun b3_3 e_b3_3 => ?_)
                  have hb3 := tb_le s0 to_2n
                  rw [← e_b3_3] at hb3
                  refine lv_iload hx hb dX9_energy_151 (lv_at hl 1 rfl) ?_
                  refine z_icmp_ne (tgt := 167) C ⟨by omega, by omega⟩ ⟨by omega, by omega⟩ dX9_energy_153 (by decide) (fun c_153 => ?_) (fun c_153 => ?_)
                  · refine lv_aload_n hx hb dX9_energy_167 rfl (lv_at hl 3 rfl) ?_
                    refine z_bipush C dX9_energy_168 rfl ?_
                    refine lv_iload hx hb dX9_energy_170 (lv_at hl 7 rfl) ?_
                    refine z_iaddN C (16) (i) rfl rfl dX9_energy_172 ?_
                    refine z_iald C hP 1 rfl ((16 + i)) rfl (by omega) (by decide) dX9_energy_173 ?_
                    refine z_iadd C dX9_energy_174 ?_
                    refine lv_istore (lv' := [(4, .int (zI ((s2) + (f (16 + i))))), (7, .int (zI ((to_2n : Nat) : Int))), (6, .int (zI ((bt_1 : Nat) : Int))), (0, .ref (a)), (1, .ref (qo)), (2, .int (zI ((s0 : Nat) : Int))), (3, .int (zI ((rows : Nat) : Int))), (5, .int (zI ((i : Nat) : Int)))]) hx hb dX9_energy_175 hl (by decide) rfl (fun ls hl => ?_)
                    exact J177 (((s2) + (f (16 + i)))) (by have e9 := e_to_2; first | (have h8 := enT2_neg (rows := rows) (f := f) (s := s0) e9 c_111; omega) | (have h8 := enT2_out1 (f := f) (s := s0) e9 (by omega) (show w * rows ≤ to_2n by omega); omega) | (have h8 := enT2_out2 (rows := rows) (f := f) (s := s0) e9 (by omega) (by omega); omega) | ((first | have h7 := enT2_in1 (f := f) (s := s0) e9 (by omega) (show to_2n < w * rows by omega) | have h7 := enT2_in2 (rows := rows) (f := f) (s := s0) e9 (by omega) (by omega)); first | (have h8 := enX_eq (v := f (16 + i)) ((tb_eq s0 to_2n i).mp (by omega)); omega) | (have h8 := enX_ne (v := f (16 + i)) (fun q => c_153 (by have := (tb_eq s0 to_2n i).mpr q; omega)); omega))) ls (lv_sub hl [2, 3, 4, 5, 6, 0, 7] rfl)
                  · refine lv_aload_n hx hb dX9_energy_156 rfl (lv_at hl 3 rfl) ?_
                    refine z_bipush C dX9_energy_157 rfl ?_
                    refine lv_iload hx hb dX9_energy_159 (lv_at hl 7 rfl) ?_
                    refine z_iaddN C (16) (i) rfl rfl dX9_energy_161 ?_
                    refine z_iald C hP 1 rfl ((16 + i)) rfl (by omega) (by decide) dX9_energy_162 ?_
                    refine z_ineg C dX9_energy_163 ?_
                    refine lv_goto (tgt := 174) hx hb dX9_energy_164 (by decide) ?_
                    refine z_iadd C dX9_energy_174 ?_
                    refine lv_istore (lv' := [(4, .int (zI ((s2) + (-(f (16 + i)))))), (7, .int (zI ((to_2n : Nat) : Int))), (6, .int (zI ((bt_1 : Nat) : Int))), (0, .ref (a)), (1, .ref (qo)), (2, .int (zI ((s0 : Nat) : Int))), (3, .int (zI ((rows : Nat) : Int))), (5, .int (zI ((i : Nat) : Int)))]) hx hb dX9_energy_175 hl (by decide) rfl (fun ls hl => ?_)
                    exact J177 (((s2) + (-(f (16 + i))))) (by have e9 := e_to_2; first | (have h8 := enT2_neg (rows := rows) (f := f) (s := s0) e9 c_111; omega) | (have h8 := enT2_out1 (f := f) (s := s0) e9 (by omega) (show w * rows ≤ to_2n by omega); omega) | (have h8 := enT2_out2 (rows := rows) (f := f) (s := s0) e9 (by omega) (by omega); omega) | ((first | have h7 := enT2_in1 (f := f) (s := s0) e9 (by omega) (show to_2n < w * rows by omega) | have h7 := enT2_in2 (rows := rows) (f := f) (s := s0) e9 (by omega) (by omega)); first | (have h8 := enX_eq (v := f (16 + i)) ((tb_eq s0 to_2n i).mp (by omega)); omega) | (have h8 := enX_ne (v := f (16 + i)) (fun q => c_153 (by have := (tb_eq s0 to_2n i).mpr q; omega)); omega))) ls (lv_sub hl [2, 3, 4, 5, 6, 0, 7] rfl)
              · refine lv_iload hx hb dX9_energy_121 (lv_at hl 0 rfl) ?_
                refine lv_aload_n hx hb dX9_energy_123 rfl (lv_at hl 2 rfl) ?_
                refine z_get C hP 0 rfl rfl in_X9 17 (by decide) q1901 rfl dX9_energy_124 ?_
                refine lv_iload_n hx hb dX9_energy_127 rfl (lv_at hl 5 rfl) ?_
                refine z_imulN C (w) (rows) rfl rfl dX9_energy_128 ?_
                refine z_icmp_ge (tgt := 177) C ⟨by omega, by omega⟩ ⟨by omega, by omega⟩ dX9_energy_129 (by decide) (fun c_129 => ?_) (fun c_129 => ?_)
                · exact J177 ((s2)) (by have e9 := e_to_2; first | (have h8 := enT2_neg (rows := rows) (f := f) (s := s0) e9 c_111; omega) | (have h8 := enT2_out1 (f := f) (s := s0) e9 (by omega) (show w * rows ≤ to_2n by omega); omega) | (have h8 := enT2_out2 (rows := rows) (f := f) (s := s0) e9 (by omega) (by omega); omega) | ((first | have h7 := enT2_in1 (f := f) (s := s0) e9 (by omega) (show to_2n < w * rows by omega) | have h7 := enT2_in2 (rows := rows) (f := f) (s := s0) e9 (by omega) (by omega)); first | (have h8 := enX_eq (v := f (16 + i)) ((tb_eq s0 to_2n i).mp (by omega)); omega) | (have h8 := enX_ne (v := f (16 + i)) (fun q => c_153 (by have := (tb_eq s0 to_2n i).mpr q; omega)); omega))) ls (lv_sub hl [1, 2, 3, 4, 5, 6, 7] rfl)
                · refine lv_goto (tgt := 143) hx hb dX9_energy_132 (by decide) ?_
                  refine lv_iload hx hb dX9_energy_143 (lv_at hl 6 rfl) ?_
                  refine lv_iload_n hx hb dX9_energy_145 rfl (lv_at hl 4 rfl) ?_
                  refine lv_iload hx hb dX9_energy_146 (lv_at hl 0 rfl) ?_
                  refine z_ishrN C (s0) (to_2n) rfl rfl (by omega) (by omega) dX9_energy_148 ?_
                  refine z_iconst C dX9_energy_149 ?_
                  refine z_iand C ((s0 >>> to_2n)) (1) rfl rfl dX9_energy_150 ?_
                  refine z_nmN (fun b3_4 e_b3_4 => ?_)
                  have hb3 := tb_le s0 to_2n
                  rw [← e_b3_4] at hb3
                  refine lv_iload hx hb dX9_energy_151 (lv_at hl 1 rfl) ?_
                  refine z_icmp_ne (tgt := 167) C ⟨by omega, by omega⟩ ⟨by omega, by omega⟩ dX9_energy_153 (by decide) (fun c_153 => ?_) (fun c_153 => ?_)
                  · refine lv_aload_n hx hb dX9_energy_167 rfl (lv_at hl 3 rfl) ?_
                    refine z_bipush C dX9_energy_168 rfl ?_
                    refine lv_iload hx hb dX9_energy_170 (lv_at hl 7 rfl) ?_
                    refine z_iaddN C (16) (i) rfl rfl dX9_energy_172 ?_
                    refine z_iald C hP 1 rfl ((16 + i)) rfl (by omega) (by decide) dX9_energy_173 ?_
                    refine z_iadd C dX9_energy_174 ?_
                    refine lv_istore (lv' := [(4, .int (zI ((s2) + (f (16 + i))))), (7, .int (zI ((to_2n : Nat) : Int))), (6, .int (zI ((bt_1 : Nat) : Int))), (0, .ref (a)), (1, .ref (qo)), (2, .int (zI ((s0 : Nat) : Int))), (3, .int (zI ((rows : Nat) : Int))), (5, .int (zI ((i : Nat) : Int)))]) hx hb dX9_energy_175 hl (by decide) rfl (fun ls hl => ?_)
                    exact J177 (((s2) + (f (16 + i)))) (by have e9 := e_to_2; first | (have h8 := enT2_neg (rows := rows) (f := f) (s := s0) e9 c_111; omega) | (have h8 := enT2_out1 (f := f) (s := s0) e9 (by omega) (show w * rows ≤ to_2n by omega); omega) | (have h8 := enT2_out2 (rows := rows) (f := f) (s := s0) e9 (by omega) (by omega); omega) | ((first | have h7 := enT2_in1 (f := f) (s := s0) e9 (by omega) (show to_2n < w * rows by omega) | have h7 := enT2_in2 (rows := rows) (f := f) (s := s0) e9 (by omega) (by omega)); first | (have h8 := enX_eq (v := f (16 + i)) ((tb_eq s0 to_2n i).mp (by omega)); omega) | (have h8 := enX_ne (v := f (16 + i)) (fun q => c_153 (by have := (tb_eq s0 to_2n i).mpr q; omega)); omega))) ls (lv_sub hl [2, 3, 4, 5, 6, 0, 7] rfl)
                  · refine lv_aload_n hx hb dX9_energy_156 rfl (lv_at hl 3 rfl) ?_
                    refine z_bipush C dX9_energy_157 rfl ?_
                    refine lv_iload hx hb dX9_energy_159 (lv_at hl 7 rfl) ?_
                    refine z_iaddN C (16) (i) rfl rfl dX9_energy_161 ?_
                    refine z_iald C hP 1 rfl ((16 + i)) rfl (by omega) (by decide) dX9_energy_162 ?_
                    refine z_ineg C dX9_energy_163 ?_
                    refine lv_goto (tgt := 174) hx hb dX9_energy_164 (by decide) ?_
                    refine z_iadd C dX9_energy_174 ?_
                    refine lv_istore (lv' := [(4, .int (zI ((s2) + (-(f (16 + i)))))), (7, .int (zI ((to_2n : Nat) : Int))), (6, .int (zI ((bt_1 : Nat) : Int))), (0, .ref (a)), (1, .ref (qo)), (2, .int (zI ((s0 : Nat) : Int))), (3, .int (zI ((rows : Nat) : Int))), (5, .int (zI ((i : Nat) : Int)))]) hx hb dX9_energy_175 hl (by decide) rfl (fun ls hl => ?_)
                    exact J177 (((s2) + (-(f (16 + i))))) (by have e9 := e_to_2; first | (have h8 := enT2_neg (rows := rows) (f := f) (s := s0) e9 c_111; omega) | (have h8 := enT2_out1 (f := f) (s := s0) e9 (by omega) (show w * rows ≤ to_2n by omega); omega) | (have h8 := enT2_out2 (rows := rows) (f := f) (s := s0) e9 (by omega) (by omega); omega) | ((first | have h7 := enT2_in1 (f := f) (s := s0) e9 (by omega) (show to_2n < w * rows by omega) | have h7 := enT2_in2 (rows := rows) (f := f) (s := s0) e9 (by omega) (by omega)); first | (have h8 := enX_eq (v := f (16 + i)) ((tb_eq s0 to_2n i).mp (by omega)); omega) | (have h8 := enX_ne (v := f (16 + i)) (fun q => c_153 (by have := (tb_eq s0 to_2n i).mpr q; omega)); omega))) ls (lv_sub hl [2, 3, 4, 5, 6, 0, 7] rfl)
          refine lv_aload_n hx hb dX9_energy_54 rfl (lv_at hl 1 rfl) ?_
          refine lv_iload hx hb dX9_energy_55 (lv_at hl 6 rfl) ?_
          refine z_iconst C dX9_energy_57 ?_
          refine z_cV (n := 2) (As := [.int (zI ((i : Nat) : Int)), .int (zI 0)]) (rest := []) C hP (k_X9_tieTo l D dA (a) (v0) (v1) (v2) (v3) (v4) (v5) (v6) (v7) (v8) (v9) (v10) (v11) (v12) (v13) (v14) (v15) (v16) (v22) (v23) (v24) (v25) (v26) (v27) (v28) (v29) (v30) (v31) (v32) (v33) (v34) (v35) (v36) (v37) (v38) (v39) (v40) (v41) (v42) (v43) (v44) (w) (le) (ra) (rl) (qn) (i) (false) (by first | with_reducible assumption | omega | with_reducible rfl) (by first | with_reducible assumption | omega | with_reducible rfl)) (lw_V q2128 q2130 qs82 q124 q2131) (by decide +kernel) rfl ⟨Nat.le_of_ble_eq_true rfl, Nat.le_of_ble_eq_true rfl⟩ hl.1 (hP.sub [0] rfl) 0 rfl rfl rfl (Nat.le_of_ble_eq_true rfl) dX9_energy_58 (Nat.zero_le _) (Nat.zero_le _) ?_
          refine z_nm (fun to_5 e_to_5 => ?_)
          have o_to_5 := oth_lt (rgOf ra rl) false hk
          rw [← e_to_5] at o_to_5
          refine lv_istore (lv' := [(7, .int (zI (to_5))), (6, .int (zI ((bt_1 : Nat) : Int))), (0, .ref (a)), (1, .ref (qo)), (2, .int (zI ((s0 : Nat) : Int))), (3, .int (zI ((rows : Nat) : Int))), (4, .int (zI (s1))), (5, .int (zI ((i : Nat) : Int)))]) hx hb dX9_energy_61 hl (by decide) rfl (fun ls hl => ?_)
          refine lv_iload hx hb dX9_energy_63 (lv_at hl 0 rfl) ?_
          refine z_if_lt (tgt := 100) C ⟨by omega, by omega⟩ dX9_energy_65 (by decide) (fun c_65 => ?_) (fun c_65 => ?_)
          · exact J100 ((s1)) (by have e9 := e_to_5; first | (have h8 := enT1_neg (f := f) (s := s0) e9 c_65; omega) | (have h7 := enT1_pos (f := f) (s := s0) e9; first | (have h8 := enX_eq (v := f i) ((tb_eq s0 to_5n i).mp (by omega)); omega) | (have h8 := enX_ne (v := f i) (fun q => c_78 (by have := (tb_eq s0 to_5n i).mpr q; omega)); omega))) ls (lv_sub hl [1, 2, 3, 4, 5, 6, 7] rfl)
          · obtain ⟨to_5n, rfl⟩ : ∃ q : Nat, to_5 = (q : Int) := ⟨to_5.toNat, by omega⟩
            refine lv_iload hx hb dX9_energy_68 (lv_at hl 6 rfl) ?_
            refine lv_iload_n hx hb dX9_energy_70 rfl (lv_at hl 4 rfl) ?_
            refine lv_iload hx hb dX9_energy_71 (lv_at hl 0 rfl) ?_
            refine z_ishrN C (s0) (to_5n) rfl rfl (by omega) (by omega) dX9_energy_73 ?_
            refine z_iconst C dX9_energy_74 ?_
            refine z_iand C ((s0 >>> to_5n)) (1) rfl rfl dX9_energy_75 ?_
            refine z_nmN (fun b2_6 e_b2_6 => ?_)
            have hb2 := tb_le s0 to_5n
            rw [← e_b2_6] at hb2
            refine lv_iload hx hb dX9_energy_76 (lv_at hl 1 rfl) ?_
            refine z_icmp_ne (tgt := 91) C ⟨by omega, by omega⟩ ⟨by omega, by omega⟩ dX9_energy_78 (by decide) (fun c_78 => ?_) (fun c_78 => ?_)
            · refine lv_aload_n hx hb dX9_energy_91 rfl (lv_at hl 3 rfl) ?_
              refine z_iconst C dX9_energy_92 ?_
              refine lv_iload hx hb dX9_energy_93 (lv_at hl 7 rfl) ?_
              refine z_iadd0 C dX9_energy_95 ?_
              refine z_iald C hP 1 rfl (i) rfl (by omega) (by decide) dX9_energy_96 ?_
              refine z_iadd C dX9_energy_97 ?_
              refine lv_istore (lv' := [(4, .int (zI ((s1) + (f i)))), (7, .int (zI ((to_5n : Nat) : Int))), (6, .int (zI ((bt_1 : Nat) : Int))), (0, .ref (a)), (1, .ref (qo)), (2, .int (zI ((s0 : Nat) : Int))), (3, .int (zI ((rows : Nat) : Int))), (5, .int (zI ((i : Nat) : Int)))]) hx hb dX9_energy_98 hl (by decide) rfl (fun ls hl => ?_)
              exact J100 (((s1) + (f i))) (by have e9 := e_to_5; first | (have h8 := enT1_neg (f := f) (s := s0) e9 c_65; omega) | (have h7 := enT1_pos (f := f) (s := s0) e9; first | (have h8 := enX_eq (v := f i) ((tb_eq s0 to_5n i).mp (by omega)); omega) | (have h8 := enX_ne (v := f i) (fun q => c_78 (by have := (tb_eq s0 to_5n i).mpr q; omega)); omega))) ls (lv_sub hl [2, 3, 4, 5, 6, 0, 7] rfl)
            · refine lv_aload_n hx hb dX9_energy_81 rfl (lv_at hl 3 rfl) ?_
              refine z_iconst C dX9_energy_82 ?_
              refine lv_iload hx hb dX9_energy_83 (lv_at hl 7 rfl) ?_
              refine z_iadd0 C dX9_energy_85 ?_
              refine z_iald C hP 1 rfl (i) rfl (by omega) (by decide) dX9_energy_86 ?_
              refine z_ineg C dX9_energy_87 ?_
              refine lv_goto (tgt := 97) hx hb dX9_energy_88 (by decide) ?_
              refine z_iadd C dX9_energy_97 ?_
              refine lv_istore (lv' := [(4, .int (zI ((s1) + (-(f i))))), (7, .int (zI ((to_5n : Nat) : Int))), (6, .int (zI ((bt_1 : Nat) : Int))), (0, .ref (a)), (1, .ref (qo)), (2, .int (zI ((s0 : Nat) : Int))), (3, .int (zI ((rows : Nat) : Int))), (5, .int (zI ((i : Nat) : Int)))]) hx hb dX9_energy_98 hl (by decide) rfl (fun ls hl => ?_)
              exact J100 (((s1) + (-(f i)))) (by have e9 := e_to_5; first | (have h8 := enT1_neg (f := f) (s := s0) e9 c_65; omega) | (have h7 := enT1_pos (f := f) (s := s0) e9; first | (have h8 := enX_eq (v := f i) ((tb_eq s0 to_5n i).mp (by omega)); omega) | (have h8 := enX_ne (v := f i) (fun q => c_78 (by have := (tb_eq s0 to_5n i).mpr q; omega)); omega))) ls (lv_sub hl [2, 3, 4, 5, 6, 0, 7] rfl)
        refine lv_iload hx hb dX9_energy_25 (lv_at hl 5 rfl) ?_
        refine lv_iload hx hb dX9_energy_27 (lv_at hl 0 rfl) ?_
        refine z_iconst C dX9_energy_29 ?_
        refine z_icmp_ne (tgt := 44) C ⟨by omega, by omega⟩ ⟨by decide, by decide⟩ dX9_energy_30 (by decide) (fun c_30 => ?_) (fun c_30 => ?_)
        · refine lv_aload_n hx hb dX9_energy_44 rfl (lv_at hl 2 rfl) ?_
          refine z_bipush C dX9_energy_45 rfl ?_
          refine lv_iload hx hb dX9_energy_47 (lv_at hl 6 rfl) ?_
          refine z_iaddN C (32) (i) rfl rfl dX9_energy_49 ?_
          refine z_iald C hP 1 rfl ((32 + i)) rfl (by omega) (by decide) dX9_energy_50 ?_
          refine z_iadd C dX9_energy_51 ?_
          refine lv_istore (lv' := [(4, .int (zI ((sm) + (f (32 + i))))), (6, .int (zI ((bt_1 : Nat) : Int))), (0, .ref (a)), (1, .ref (qo)), (2, .int (zI ((s0 : Nat) : Int))), (3, .int (zI ((rows : Nat) : Int))), (5, .int (zI ((i : Nat) : Int)))]) hx hb dX9_energy_52 hl (by decide) rfl (fun ls hl => ?_)
          exact J54 (((sm) + (f (32 + i)))) (by first | (have h8 := enX_eq (v := f (32 + i)) (hbi.mp (by omega)).symm; omega) | (have h8 := enX_ne (v := f (32 + i)) (x := true) (fun q => c_30 (by have := hbi.mpr q.symm; omega)); omega)) ls (lv_sub hl [1, 2, 3, 4, 5, 0, 6] rfl)
        · refine lv_aload_n hx hb dX9_energy_33 rfl (lv_at hl 2 rfl) ?_
          refine z_bipush C dX9_energy_34 rfl ?_
          refine lv_iload hx hb dX9_energy_36 (lv_at hl 6 rfl) ?_
          refine z_iaddN C (32) (i) rfl rfl dX9_energy_38 ?_
          refine z_iald C hP 1 rfl ((32 + i)) rfl (by omega) (by decide) dX9_energy_39 ?_
          refine z_ineg C dX9_energy_40 ?_
          refine lv_goto (tgt := 51) hx hb dX9_energy_41 (by decide) ?_
          refine z_iadd C dX9_energy_51 ?_
          refine lv_istore (lv' := [(4, .int (zI ((sm) + (-(f (32 + i)))))), (6, .int (zI ((bt_1 : Nat) : Int))), (0, .ref (a)), (1, .ref (qo)), (2, .int (zI ((s0 : Nat) : Int))), (3, .int (zI ((rows : Nat) : Int))), (5, .int (zI ((i : Nat) : Int)))]) hx hb dX9_energy_52 hl (by decide) rfl (fun ls hl => ?_)
          exact J54 (((sm) + (-(f (32 + i))))) (by first | (have h8 := enX_eq (v := f (32 + i)) (hbi.mp (by omega)).symm; omega) | (have h8 := enX_ne (v := f (32 + i)) (x := true) (fun q => c_30 (by have := hbi.mpr q.symm; omega)); omega)) ls (lv_sub hl [1, 2, 3, 4, 5, 0, 6] rfl)
  exact L6 ((w * rows - 0) + 1) (0) (0) (by first | with_reducible assumption | omega | with_reducible rfl) rfl (by omega) ls (lv_sub hl [2, 3, 4, 5, 1, 0] rfl)
set_option maxHeartbeats 600000 in
set_option maxRecDepth 100000 in
theorem k_X9_isLawfulBy (l : Launch) (D : va_G) (dA : Nat → ClassId) (q : Nat) (f : Nat → Int) (s0 mn : Nat) (hmn : mn ≤ 16) (hs0 : s0 < 2147483648) (bo : ∀ j, -1000000 ≤ f j ∧ f j ≤ 1000000) : zM l yX9_isLawfulBy cX9_isLawfulBy 4 (some .boolean) (zRm 0 0) D dA [.ref (q), .int (zI ((s0 : Nat) : Int)), .int (zI ((mn : Nat) : Int))] [(q, .inl (dA 3, 66, .inl (fun j => zI (f j))))] (some (.int (zB (lwN f s0 mn)))) := by
  refine zM.of (by decide +kernel) rfl ?_
  intro pp ee ss mm args below meth cd Q C hr hlk hQ hP ls hl
  have hx := C.1.1
  have hb := C.1.2.1
  have hl : lv_has ls 4 [(0, .ref (q)), (1, .int (zI ((s0 : Nat) : Int))), (2, .int (zI ((mn : Nat) : Int)))] := hl
  refine z_iconst C dX9_isLawfulBy_0 ?_
  refine lv_istore_n (lv' := [(3, .int (zI 0)), (0, .ref (q)), (1, .int (zI ((s0 : Nat) : Int))), (2, .int (zI ((mn : Nat) : Int)))]) hx hb dX9_isLawfulBy_1 rfl hl (by decide) rfl (fun ls hl => ?_)
  have L2 : ∀ (N : Nat) (i : Nat), (i ≤ mn) → (lwN f s0 i = true) → (mn - i) < N → ∀ ls : Array Slot, lv_has ls 4 [(0, .ref (q)), (1, .int (zI ((s0 : Nat) : Int))), (2, .int (zI ((mn : Nat) : Int))), (3, .int (zI ((i : Nat) : Int)))] → W pp l ee (zRm 0 0) ss mm args below meth cd ss.heap [] 0 0 Q (F0 mm 2 ls []) := by
    intro N
    induction N with
    | zero => intro i _ _ hm; exact absurd hm (Nat.not_lt_zero _)
    | succ N ih2 =>
      intro i hi hs hm2 ls hl
      refine lv_iload_n hx hb dX9_isLawfulBy_2 rfl (lv_at hl 3 rfl) ?_
      refine lv_iload_n hx hb dX9_isLawfulBy_3 rfl (lv_at hl 2 rfl) ?_
      refine z_icmp_ge (tgt := 40) C ⟨by omega, by omega⟩ ⟨by omega, by omega⟩ dX9_isLawfulBy_4 (by decide) (fun c_4 => ?_) (fun c_4 => ?_)
      · refine z_iconst C dX9_isLawfulBy_40 ?_
        exact z_zret1 C hlk hr hQ (by rw [show mn = i by omega]; exact hs) dX9_isLawfulBy_41
      · have bi := bo (48 + i)
        have hb1 := tb_le s0 i
        refine lv_aload_n hx hb dX9_isLawfulBy_7 rfl (lv_at hl 0 rfl) ?_
        refine z_bipush C dX9_isLawfulBy_8 rfl ?_
        refine lv_iload_n hx hb dX9_isLawfulBy_10 rfl (lv_at hl 3 rfl) ?_
        refine z_iaddN C (48) (i) rfl rfl dX9_isLawfulBy_11 ?_
        refine z_iald C hP 0 rfl ((48 + i)) rfl (by omega) (by decide) dX9_isLawfulBy_12 ?_
        refine z_if_le (tgt := 34) C ⟨by omega, by omega⟩ dX9_isLawfulBy_13 (by decide) (fun c_13 => ?_) (fun c_13 => ?_)
        · refine lv_iinc (v := zI ((i + 1 : Nat) : Int)) (lv' := [(3, .int (zI ((i + 1 : Nat) : Int))), (0, .ref (q)), (1, .int (zI ((s0 : Nat) : Int))), (2, .int (zI ((mn : Nat) : Int)))]) hx hb dX9_isLawfulBy_34 hl (k := 3) rfl (zI_inc (by omega)) (by decide) rfl (fun ls hl => ?_)
          refine lv_goto (tgt := 2) hx hb dX9_isLawfulBy_37 (by decide) ?_
          exact ih2 (i + 1) (by first | with_reducible assumption | omega | with_reducible rfl) (by simp only [lwN]; rw [hs]; unfold lwB; simp only [Bool.true_and, Bool.or_eq_true, decide_eq_true_eq]; omega) (by omega) ls (lv_sub hl [1, 2, 3, 0] rfl)
        · refine lv_iload_n hx hb dX9_isLawfulBy_16 rfl (lv_at hl 1 rfl) ?_
          refine lv_iload_n hx hb dX9_isLawfulBy_17 rfl (lv_at hl 3 rfl) ?_
          refine z_ishrN C (s0) (i) rfl rfl (by omega) (by omega) dX9_isLawfulBy_18 ?_
          refine z_iconst C dX9_isLawfulBy_19 ?_
          refine z_iand C ((s0 >>> i)) (1) rfl rfl dX9_isLawfulBy_20 ?_
          refine z_iconst C dX9_isLawfulBy_21 ?_
          refine lv_aload_n hx hb dX9_isLawfulBy_22 rfl (lv_at hl 0 rfl) ?_
          refine z_bipush C dX9_isLawfulBy_23 rfl ?_
          refine lv_iload_n hx hb dX9_isLawfulBy_25 rfl (lv_at hl 3 rfl) ?_
          refine z_iaddN C (48) (i) rfl rfl dX9_isLawfulBy_26 ?_
          refine z_iald C hP 0 rfl ((48 + i)) rfl (by omega) (by decide) dX9_isLawfulBy_27 ?_
          refine z_isub C dX9_isLawfulBy_28 ?_
          refine z_icmp_eq (tgt := 34) C ⟨by omega, by omega⟩ ⟨by omega, by omega⟩ dX9_isLawfulBy_29 (by decide) (fun c_29 => ?_) (fun c_29 => ?_)
          · refine lv_iinc (v := zI ((i + 1 : Nat) : Int)) (lv' := [(3, .int (zI ((i + 1 : Nat) : Int))), (0, .ref (q)), (1, .int (zI ((s0 : Nat) : Int))), (2, .int (zI ((mn : Nat) : Int)))]) hx hb dX9_isLawfulBy_34 hl (k := 3) rfl (zI_inc (by omega)) (by decide) rfl (fun ls hl => ?_)
            refine lv_goto (tgt := 2) hx hb dX9_isLawfulBy_37 (by decide) ?_
            exact ih2 (i + 1) (by first | with_reducible assumption | omega | with_reducible rfl) (by simp only [lwN]; rw [hs]; unfold lwB; simp only [Bool.true_and, Bool.or_eq_true, decide_eq_true_eq]; omega) (by omega) ls (lv_sub hl [1, 2, 3, 0] rfl)
          · refine z_iconst C dX9_isLawfulBy_32 ?_
            exact z_zret0 C hlk hr hQ (lwN_false (show i < mn by omega) (by unfold lwB; simp only [Bool.or_eq_false_iff, decide_eq_false_iff_not]; omega)) dX9_isLawfulBy_33
  exact L2 ((mn - 0) + 1) (0) (by first | with_reducible assumption | omega | with_reducible rfl) rfl (by omega) ls (lv_sub hl [1, 2, 3, 0] rfl)
set_option maxHeartbeats 600000 in
set_option maxRecDepth 100000 in
theorem k_X9_states (l : Launch) (D : va_G) (dA : Nat → ClassId) (a : Nat) (v0 v1 v2 v3 v4 v5 v6 v7 v8 v9 v10 v11 v12 v13 v14 v15 v16 v22 v23 v24 v25 v26 v27 v28 v29 v30 v31 v32 v33 v34 v35 v36 v37 v38 v39 v40 v41 v42 v43 v44 : Value) (w le : Nat) (ra rl : Bool) (qn : Nat) (hwl : w * le ≤ 16) : zM l yX9_states cX9_states 1 (some .int) (zRm 1 20) D dA [.ref (a)] [(a, .inr (9, [v0, v1, v2, v3, v4, v5, v6, v7, v8, v9, v10, v11, v12, v13, v14, v15, v16, .int (zI ((w : Nat) : Int)), .int (zI ((le : Nat) : Int)), .int (zB (ra)), .int (zB (rl)), .ref (qn), v22, v23, v24, v25, v26, v27, v28, v29, v30, v31, v32, v33, v34, v35, v36, v37, v38, v39, v40, v41, v42, v43, v44]))] (some (.int (zI ((nst w le : Nat) : Int)))) := by
  refine zM.of (by decide +kernel) rfl ?_
  intro pp ee ss mm args below meth cd Q C hr hlk hQ hP ls hl
  have hx := C.1.1
  have hb := C.1.2.1
  have hl : lv_has ls 1 [(0, .ref (a))] := hl
  refine lv_aload_n hx hb dX9_states_0 rfl (lv_at hl 0 rfl) ?_
  refine z_cV (n := 0) (As := []) (rest := []) C hP (k_X9_sites l D dA (a) (v0) (v1) (v2) (v3) (v4) (v5) (v6) (v7) (v8) (v9) (v10) (v11) (v12) (v13) (v14) (v15) (v16) (v22) (v23) (v24) (v25) (v26) (v27) (v28) (v29) (v30) (v31) (v32) (v33) (v34) (v35) (v36) (v37) (v38) (v39) (v40) (v41) (v42) (v43) (v44) (w) (le) (ra) (rl) (qn)) (lw_V q2112 q2114 qs80 q124 q2115) (by decide +kernel) rfl ⟨Nat.le_of_ble_eq_true rfl, Nat.le_of_ble_eq_true rfl⟩ hl.1 (hP.sub [0] rfl) 0 rfl rfl rfl (Nat.le_of_ble_eq_true rfl) dX9_states_1 (Nat.zero_le _) (Nat.zero_le _) ?_
  refine z_if_ne (tgt := 11) C ⟨by omega, by omega⟩ dX9_states_4 (by decide) (fun c_4 => ?_) (fun c_4 => ?_)
  · refine z_iconst C dX9_states_11 ?_
    refine lv_aload_n hx hb dX9_states_12 rfl (lv_at hl 0 rfl) ?_
    refine z_cV (n := 0) (As := []) (rest := [.int (zI 1)]) C hP (k_X9_sites l D dA (a) (v0) (v1) (v2) (v3) (v4) (v5) (v6) (v7) (v8) (v9) (v10) (v11) (v12) (v13) (v14) (v15) (v16) (v22) (v23) (v24) (v25) (v26) (v27) (v28) (v29) (v30) (v31) (v32) (v33) (v34) (v35) (v36) (v37) (v38) (v39) (v40) (v41) (v42) (v43) (v44) (w) (le) (ra) (rl) (qn)) (lw_V q2112 q2114 qs80 q124 q2115) (by decide +kernel) rfl ⟨Nat.le_of_ble_eq_true rfl, Nat.le_of_ble_eq_true rfl⟩ hl.1 (hP.sub [0] rfl) 0 rfl rfl rfl (Nat.le_of_ble_eq_true rfl) dX9_states_13 (Nat.zero_le _) (Nat.zero_le _) ?_
    refine z_ishl1 C (w * le) rfl rfl (by omega) dX9_states_16 ?_
    exact z_iret C hlk hr hQ (by unfold nst; split <;> first | rfl | omega) dX9_states_17
  · refine z_iconst C dX9_states_7 ?_
    refine lv_goto (tgt := 17) hx hb dX9_states_8 (by decide) ?_
    exact z_iret C hlk hr hQ (by unfold nst; split <;> first | rfl | omega) dX9_states_17
set_option maxHeartbeats 600000 in
set_option maxRecDepth 100000 in
theorem k_X9_isLawful (l : Launch) (D : va_G) (dA : Nat → ClassId) (a : Nat) (v0 v1 v2 v3 v4 v5 v6 v7 v8 v9 v10 v11 v12 v13 v14 v15 v16 v22 v23 v24 v25 v26 v27 v28 v29 v30 v31 v32 v33 v34 v35 v36 v37 v38 v39 v40 v41 v42 v43 v44 : Value) (w le : Nat) (ra rl : Bool) (qn : Nat) (f : Nat → Int) (x : Int) (hwl : w * le ≤ 16) (hx0 : zR x) (bo : ∀ j, -1000000 ≤ f j ∧ f j ≤ 1000000) : zM l yX9_isLawful cX9_isLawful 2 (some .boolean) (zRm 2 40) D dA [.ref (a), .int (zI (x))] [(a, .inr (9, [v0, v1, v2, v3, v4, v5, v6, v7, v8, v9, v10, v11, v12, v13, v14, v15, v16, .int (zI ((w : Nat) : Int)), .int (zI ((le : Nat) : Int)), .int (zB (ra)), .int (zB (rl)), .ref (qn), v22, v23, v24, v25, v26, v27, v28, v29, v30, v31, v32, v33, v34, v35, v36, v37, v38, v39, v40, v41, v42, v43, v44])), (qn, .inl (dA 3, 66, .inl (fun j => zI (f j))))] (some (.int (zB (lawMZ w le f x)))) := by
  refine zM.of (by decide +kernel) rfl ?_
  intro pp ee ss mm args below meth cd Q C hr hlk hQ hP ls hl
  have hx := C.1.1
  have hb := C.1.2.1
  have hl : lv_has ls 2 [(0, .ref (a)), (1, .int (zI (x)))] := hl
  have hns : nst w le ≤ 65536 := nst_le hwl
  refine lv_iload_n hx hb dX9_isLawful_0 rfl (lv_at hl 1 rfl) ?_
  refine z_iconst C dX9_isLawful_1 ?_
  refine lv_aload_n hx hb dX9_isLawful_2 rfl (lv_at hl 0 rfl) ?_
  refine z_cV (n := 0) (As := []) (rest := [.int (zI 0), .int (zI (x))]) C hP (k_X9_states l D dA (a) (v0) (v1) (v2) (v3) (v4) (v5) (v6) (v7) (v8) (v9) (v10) (v11) (v12) (v13) (v14) (v15) (v16) (v22) (v23) (v24) (v25) (v26) (v27) (v28) (v29) (v30) (v31) (v32) (v33) (v34) (v35) (v36) (v37) (v38) (v39) (v40) (v41) (v42) (v43) (v44) (w) (le) (ra) (rl) (qn) (by first | with_reducible assumption | omega | with_reducible rfl)) (lw_V q2171 q2173 qs85 q124 q2174) (by decide +kernel) rfl ⟨Nat.le_of_ble_eq_true rfl, Nat.le_of_ble_eq_true rfl⟩ hl.1 (hP.sub [0] rfl) 0 rfl rfl rfl (Nat.le_of_ble_eq_true rfl) dX9_isLawful_3 (Nat.zero_le _) (Nat.zero_le _) ?_
  refine z_iconst C dX9_isLawful_6 ?_
  refine z_isub C dX9_isLawful_7 ?_
  refine z_cS (n := 3) (As := [.int (zI (x)), .int (zI 0), .int (zI (((nst w le : Nat) : Int) - 1))]) (rest := []) C (k_X9_in l D dA ((x)) (0) ((((nst w le : Nat) : Int) - 1)) (by first | with_reducible assumption | omega | with_reducible rfl) (by first | with_reducible assumption | omega | with_reducible rfl) (by first | with_reducible assumption | omega | with_reducible rfl)) (lw_S q2090 q2091 q124 q2092) (by decide +kernel) rfl ⟨Nat.le_of_ble_eq_true rfl, Nat.le_of_ble_eq_true rfl⟩ hl.1 (hP.sub [] rfl) rfl (Nat.le_of_ble_eq_true rfl) dX9_isLawful_8 (Nat.zero_le _) (Nat.zero_le _) ?_
  refine z_if_eqB (tgt := 33) C dX9_isLawful_11 (by decide) (fun c_11 => ?_) (fun c_11 => ?_)
  · have c_11 := of_decide_eq_false c_11
    refine z_iconst C dX9_isLawful_33 ?_
    exact z_zret0 C hlk hr hQ (by first | exact lawMZ_out c_11 | (rw [lawMZ_nat]; unfold lawM; rw [c_26]; simp)) dX9_isLawful_34
  · have c_11 := of_decide_eq_true c_11
    obtain ⟨xn, rfl⟩ : ∃ xn : Nat, x = (xn : Int) := ⟨x.toNat, by omega⟩
    refine lv_aload_n hx hb dX9_isLawful_14 rfl (lv_at hl 0 rfl) ?_
    refine z_get C hP 0 rfl rfl in_X9 21 (by decide) q1905 rfl dX9_isLawful_15 ?_
    refine lv_iload_n hx hb dX9_isLawful_18 rfl (lv_at hl 1 rfl) ?_
    refine lv_aload_n hx hb dX9_isLawful_19 rfl (lv_at hl 0 rfl) ?_
    refine z_cV (n := 0) (As := []) (rest := [.int (zI ((xn : Nat) : Int)), .ref (qn)]) C hP (k_X9_sites l D dA (a) (v0) (v1) (v2) (v3) (v4) (v5) (v6) (v7) (v8) (v9) (v10) (v11) (v12) (v13) (v14) (v15) (v16) (v22) (v23) (v24) (v25) (v26) (v27) (v28) (v29) (v30) (v31) (v32) (v33) (v34) (v35) (v36) (v37) (v38) (v39) (v40) (v41) (v42) (v43) (v44) (w) (le) (ra) (rl) (qn)) (lw_V q2112 q2114 qs80 q124 q2115) (by decide +kernel) rfl ⟨Nat.le_of_ble_eq_true rfl, Nat.le_of_ble_eq_true rfl⟩ hl.1 (hP.sub [0] rfl) 0 rfl rfl rfl (Nat.le_of_ble_eq_true rfl) dX9_isLawful_20 (Nat.zero_le _) (Nat.zero_le _) ?_
    refine z_cS (n := 3) (As := [.ref (qn), .int (zI ((xn : Nat) : Int)), .int (zI ((w * le : Nat) : Int))]) (rest := []) C (k_X9_isLawfulBy l D dA (qn) (f) (xn) (w * le) (by first | with_reducible assumption | omega | with_reducible rfl) (by first | with_reducible assumption | omega | with_reducible rfl) (by first | with_reducible assumption | omega | with_reducible rfl)) (lw_S q2179 q2180 q124 q2181) (by decide +kernel) rfl ⟨Nat.le_of_ble_eq_true rfl, Nat.le_of_ble_eq_true rfl⟩ hl.1 (hP.sub [1] rfl) rfl (Nat.le_of_ble_eq_true rfl) dX9_isLawful_23 (Nat.zero_le _) (Nat.zero_le _) ?_
    refine z_if_eqB (tgt := 33) C dX9_isLawful_26 (by decide) (fun c_26 => ?_) (fun c_26 => ?_)
    · refine z_iconst C dX9_isLawful_33 ?_
      exact z_zret0 C hlk hr hQ (by first | exact lawMZ_out c_11 | (rw [lawMZ_nat]; unfold lawM; rw [c_26]; simp)) dX9_isLawful_34
    · refine z_iconst C dX9_isLawful_29 ?_
      refine lv_goto (tgt := 34) hx hb dX9_isLawful_30 (by decide) ?_
      exact z_zret1 C hlk hr hQ (by rw [lawMZ_nat]; unfold lawM; rw [c_26]; simp; omega) dX9_isLawful_34
set_option maxHeartbeats 600000 in
set_option maxRecDepth 100000 in
theorem k_X9_costOf (l : Launch) (D : va_G) (dA : Nat → ClassId) (a : Nat) (v0 v1 v2 v3 v4 v5 v6 v7 v8 v9 v10 v11 v12 v13 v14 v15 v16 v22 v23 v24 v25 v26 v27 v28 v29 v30 v31 v32 v33 v34 v35 v36 v37 v38 v39 v40 v41 v42 v43 v44 : Value) (w le : Nat) (ra rl : Bool) (qn : Nat) (f : Nat → Int) (s0 k : Nat) (hwl : w * le ≤ 16) (hk : k < w * le) (hs0 : s0 < 65536) (hle : le ≤ 16) : zM l yX9_costOf cX9_costOf 3 (some .int) (zRm 3 75) D dA [.ref (a), .int (zI ((s0 : Nat) : Int)), .int (zI ((k : Nat) : Int))] [(a, .inr (9, [v0, v1, v2, v3, v4, v5, v6, v7, v8, v9, v10, v11, v12, v13, v14, v15, v16, .int (zI ((w : Nat) : Int)), .int (zI ((le : Nat) : Int)), .int (zB (ra)), .int (zB (rl)), .ref (qn), v22, v23, v24, v25, v26, v27, v28, v29, v30, v31, v32, v33, v34, v35, v36, v37, v38, v39, v40, v41, v42, v43, v44])), (qn, .inl (dA 3, 66, .inl (fun j => zI (f j))))] (some (.int (zI (enN w le (rgOf ra rl) le f (s0 ^^^ 2 ^ k) (w * le) - enN w le (rgOf ra rl) le f s0 (w * le))))) := by
  refine zM.of (by decide +kernel) rfl ?_
  intro pp ee ss mm args below meth cd Q C hr hlk hQ hP ls hl
  have hx := C.1.1
  have hb := C.1.2.1
  have hl : lv_has ls 3 [(0, .ref (a)), (1, .int (zI ((s0 : Nat) : Int))), (2, .int (zI ((k : Nat) : Int)))] := hl
  have hx2 : s0 ^^^ 2 ^ k < 2 ^ 16 := Nat.xor_lt_two_pow hs0 (Nat.pow_lt_pow_right (by decide) (by omega))
  refine lv_aload_n hx hb dX9_costOf_0 rfl (lv_at hl 0 rfl) ?_
  refine lv_aload_n hx hb dX9_costOf_1 rfl (lv_at hl 0 rfl) ?_
  refine z_get C hP 0 rfl rfl in_X9 21 (by decide) q1905 rfl dX9_costOf_2 ?_
  refine lv_iload_n hx hb dX9_costOf_5 rfl (lv_at hl 1 rfl) ?_
  refine z_iconst C dX9_costOf_6 ?_
  refine lv_iload_n hx hb dX9_costOf_7 rfl (lv_at hl 2 rfl) ?_
  refine z_ishl1 C (k) rfl rfl (by omega) dX9_costOf_8 ?_
  refine z_ixor C (s0) ((2 ^ k)) rfl rfl dX9_costOf_9 ?_
  refine lv_aload_n hx hb dX9_costOf_10 rfl (lv_at hl 0 rfl) ?_
  refine z_get C hP 0 rfl rfl in_X9 18 (by decide) q1902 rfl dX9_costOf_11 ?_
  refine z_cV (n := 3) (As := [.ref (qn), .int (zI (((s0 ^^^ (2 ^ k)) : Nat) : Int)), .int (zI ((le : Nat) : Int))]) (rest := []) C hP (k_X9_energy l D dA (a) (v0) (v1) (v2) (v3) (v4) (v5) (v6) (v7) (v8) (v9) (v10) (v11) (v12) (v13) (v14) (v15) (v16) (v22) (v23) (v24) (v25) (v26) (v27) (v28) (v29) (v30) (v31) (v32) (v33) (v34) (v35) (v36) (v37) (v38) (v39) (v40) (v41) (v42) (v43) (v44) (w) (le) (ra) (rl) (qn) (qn) (f) ((s0 ^^^ (2 ^ k))) (le) (by first | with_reducible assumption | omega | with_reducible rfl) (by first | with_reducible assumption | omega | with_reducible rfl) (by first | with_reducible assumption | omega | with_reducible rfl) (by first | with_reducible assumption | omega | with_reducible rfl) (by first | with_reducible assumption | omega | with_reducible rfl)) (lw_V q2182 q2184 qs87 q124 q2185) (by decide +kernel) rfl ⟨Nat.le_of_ble_eq_true rfl, Nat.le_of_ble_eq_true rfl⟩ hl.1 (hP.sub [0, 1] rfl) 0 rfl rfl rfl (Nat.le_of_ble_eq_true rfl) dX9_costOf_14 (Nat.zero_le _) (Nat.zero_le _) ?_
  refine lv_aload_n hx hb dX9_costOf_17 rfl (lv_at hl 0 rfl) ?_
  refine lv_aload_n hx hb dX9_costOf_18 rfl (lv_at hl 0 rfl) ?_
  refine z_get C hP 0 rfl rfl in_X9 21 (by decide) q1905 rfl dX9_costOf_19 ?_
  refine lv_iload_n hx hb dX9_costOf_22 rfl (lv_at hl 1 rfl) ?_
  refine lv_aload_n hx hb dX9_costOf_23 rfl (lv_at hl 0 rfl) ?_
  refine z_get C hP 0 rfl rfl in_X9 18 (by decide) q1902 rfl dX9_costOf_24 ?_
  refine z_cV (n := 3) (As := [.ref (qn), .int (zI ((s0 : Nat) : Int)), .int (zI ((le : Nat) : Int))]) (rest := [.int (zI (enN w le (rgOf ra rl) le f ((s0 ^^^ (2 ^ k))) (w * le)))]) C hP (k_X9_energy l D dA (a) (v0) (v1) (v2) (v3) (v4) (v5) (v6) (v7) (v8) (v9) (v10) (v11) (v12) (v13) (v14) (v15) (v16) (v22) (v23) (v24) (v25) (v26) (v27) (v28) (v29) (v30) (v31) (v32) (v33) (v34) (v35) (v36) (v37) (v38) (v39) (v40) (v41) (v42) (v43) (v44) (w) (le) (ra) (rl) (qn) (qn) (f) (s0) (le) (by first | with_reducible assumption | omega | with_reducible rfl) (by first | with_reducible assumption | omega | with_reducible rfl) (by first | with_reducible assumption | omega | with_reducible rfl) (by first | with_reducible assumption | omega | with_reducible rfl) (by first | with_reducible assumption | omega | with_reducible rfl)) (lw_V q2182 q2184 qs87 q124 q2185) (by decide +kernel) rfl ⟨Nat.le_of_ble_eq_true rfl, Nat.le_of_ble_eq_true rfl⟩ hl.1 (hP.sub [0, 1] rfl) 0 rfl rfl rfl (Nat.le_of_ble_eq_true rfl) dX9_costOf_27 (Nat.zero_le _) (Nat.zero_le _) ?_
  refine z_isub C dX9_costOf_30 ?_
  exact z_iret C hlk hr hQ (by first | rfl | omega) dX9_costOf_31
