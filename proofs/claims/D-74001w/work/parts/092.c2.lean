set_option maxHeartbeats 600000 in
set_option maxRecDepth 100000 in
theorem k_J14_bitCount (l : Launch) (D : va_G) (dA : Nat → ClassId) (x : Nat) (h1 : x < 65536) : zM l yJ14_bitCount cJ14_bitCount 1 (some .int) (zRm 0 0) D dA [.int (zI ((x : Nat) : Int))] [] (some (.int (zI ((pop x : Nat) : Int)))) := by
  refine zM.of (by decide +kernel) rfl ?_
  intro pp ee ss mm args below meth cd Q C hr hlk hQ hP ls hl
  have hx := C.1.1
  have hb := C.1.2.1
  have hl : lv_has ls 1 [(0, .int (zI ((x : Nat) : Int)))] := hl
  refine lv_iload_n hx hb dJ14_bitCount_0 rfl (lv_at hl 0 rfl) ?_
  refine lv_iload_n hx hb dJ14_bitCount_1 rfl (lv_at hl 0 rfl) ?_
  refine z_iconst C dJ14_bitCount_2 ?_
  refine z_iushr C (x) (1) rfl rfl (by omega) (by omega) dJ14_bitCount_3 ?_
  refine z_ldcw C (1431655765) q1270 rfl dJ14_bitCount_4 ?_
  refine z_iand C ((x / 2 ^ 1)) (1431655765) rfl rfl dJ14_bitCount_7 ?_
  refine z_isubN C (x) (((x / 2 ^ 1) &&& 1431655765)) rfl rfl (by have : (x / 2 ^ 1 &&& 1431655765) ≤ x / 2 ^ 1 := Nat.and_le_left; omega) dJ14_bitCount_8 ?_
  refine z_nmN (fun b1_1 e_b1_1 => ?_)
  have l1 : b1_1 ≤ x := by rw [e_b1_1]; exact Nat.sub_le _ _
  refine lv_istore_n (lv' := [(0, .int (zI ((b1_1 : Nat) : Int)))]) hx hb dJ14_bitCount_9 rfl hl (by decide) rfl (fun ls hl => ?_)
  refine lv_iload_n hx hb dJ14_bitCount_10 rfl (lv_at hl 0 rfl) ?_
  refine z_ldcw C (858993459) q1271 rfl dJ14_bitCount_11 ?_
  refine z_iand C (b1_1) (858993459) rfl rfl dJ14_bitCount_14 ?_
  refine lv_iload_n hx hb dJ14_bitCount_15 rfl (lv_at hl 0 rfl) ?_
  refine z_iconst C dJ14_bitCount_16 ?_
  refine z_iushr C (b1_1) (2) rfl rfl (by omega) (by omega) dJ14_bitCount_17 ?_
  refine z_ldcw C (858993459) q1271 rfl dJ14_bitCount_18 ?_
  refine z_iand C ((b1_1 / 2 ^ 2)) (858993459) rfl rfl dJ14_bitCount_21 ?_
  refine z_iaddN C ((b1_1 &&& 858993459)) (((b1_1 / 2 ^ 2) &&& 858993459)) rfl rfl dJ14_bitCount_22 ?_
  refine z_nmN (fun b2_2 e_b2_2 => ?_)
  have l2 : b2_2 ≤ 2 * b1_1 := (by have q1 : (b1_1 &&& 858993459) ≤ b1_1 := Nat.and_le_left; have q2 : (b1_1 / 2 ^ 2 &&& 858993459) ≤ b1_1 / 2 ^ 2 := Nat.and_le_left; omega)
  refine lv_istore_n (lv' := [(0, .int (zI ((b2_2 : Nat) : Int)))]) hx hb dJ14_bitCount_23 rfl hl (by decide) rfl (fun ls hl => ?_)
  refine lv_iload_n hx hb dJ14_bitCount_24 rfl (lv_at hl 0 rfl) ?_
  refine lv_iload_n hx hb dJ14_bitCount_25 rfl (lv_at hl 0 rfl) ?_
  refine z_iconst C dJ14_bitCount_26 ?_
  refine z_iushr C (b2_2) (4) rfl rfl (by omega) (by omega) dJ14_bitCount_27 ?_
  refine z_iaddN C (b2_2) ((b2_2 / 2 ^ 4)) rfl rfl dJ14_bitCount_28 ?_
  refine z_ldcw C (252645135) q1272 rfl dJ14_bitCount_29 ?_
  refine z_iand C ((b2_2 + (b2_2 / 2 ^ 4))) (252645135) rfl rfl dJ14_bitCount_32 ?_
  refine z_nmN (fun b3_3 e_b3_3 => ?_)
  have l3 : b3_3 ≤ 2 * b2_2 := (by have q1 : (b2_2 + b2_2 / 2 ^ 4 &&& 252645135) ≤ b2_2 + b2_2 / 2 ^ 4 := Nat.and_le_left; omega)
  refine lv_istore_n (lv' := [(0, .int (zI ((b3_3 : Nat) : Int)))]) hx hb dJ14_bitCount_33 rfl hl (by decide) rfl (fun ls hl => ?_)
  refine lv_iload_n hx hb dJ14_bitCount_34 rfl (lv_at hl 0 rfl) ?_
  refine lv_iload_n hx hb dJ14_bitCount_35 rfl (lv_at hl 0 rfl) ?_
  refine z_bipush C dJ14_bitCount_36 rfl ?_
  refine z_iushr C (b3_3) (8) rfl rfl (by omega) (by omega) dJ14_bitCount_38 ?_
  refine z_iaddN C (b3_3) ((b3_3 / 2 ^ 8)) rfl rfl dJ14_bitCount_39 ?_
  refine z_nmN (fun b4_4 e_b4_4 => ?_)
  refine lv_istore_n (lv' := [(0, .int (zI ((b4_4 : Nat) : Int)))]) hx hb dJ14_bitCount_40 rfl hl (by decide) rfl (fun ls hl => ?_)
  refine lv_iload_n hx hb dJ14_bitCount_41 rfl (lv_at hl 0 rfl) ?_
  refine lv_iload_n hx hb dJ14_bitCount_42 rfl (lv_at hl 0 rfl) ?_
  refine z_bipush C dJ14_bitCount_43 rfl ?_
  refine z_iushr C (b4_4) (16) rfl rfl (by omega) (by omega) dJ14_bitCount_45 ?_
  refine z_iaddN C (b4_4) ((b4_4 / 2 ^ 16)) rfl rfl dJ14_bitCount_46 ?_
  refine z_nmN (fun b5_5 e_b5_5 => ?_)
  refine lv_istore_n (lv' := [(0, .int (zI ((b5_5 : Nat) : Int)))]) hx hb dJ14_bitCount_47 rfl hl (by decide) rfl (fun ls hl => ?_)
  refine lv_iload_n hx hb dJ14_bitCount_48 rfl (lv_at hl 0 rfl) ?_
  refine z_bipush C dJ14_bitCount_49 rfl ?_
  refine z_iand C (b5_5) (63) rfl rfl dJ14_bitCount_51 ?_
  exact z_iret C hlk hr hQ (by rw [← bcF_pop h1]; unfold bcF; rw [show bc3 (bc2 (bc1 x)) = b3_3 by rw [e_b3_3, e_b2_2, e_b1_1]; rfl, ← e_b4_4, ← e_b5_5]) dJ14_bitCount_52
set_option maxHeartbeats 600000 in
set_option maxRecDepth 100000 in
theorem k_J14_numberOfTrailingZeros (l : Launch) (D : va_G) (dA : Nat → ClassId) (x : Nat) (h0 : 0 < x) (h1 : x < 65536) : zM l yJ14_numberOfTrailingZeros cJ14_numberOfTrailingZeros 2 (some .int) (zRm 0 0) D dA [.int (zI ((x : Nat) : Int))] [] (some (.int (zI ((tz x : Nat) : Int)))) := by
  refine zM.of (by decide +kernel) rfl ?_
  intro pp ee ss mm args below meth cd Q C hr hlk hQ hP ls hl
  have hx := C.1.1
  have hb := C.1.2.1
  have hl : lv_has ls 2 [(0, .int (zI ((x : Nat) : Int)))] := hl
  refine lv_iload_n hx hb dJ14_numberOfTrailingZeros_0 rfl (lv_at hl 0 rfl) ?_
  refine z_iconst C dJ14_numberOfTrailingZeros_1 ?_
  refine z_inot C dJ14_numberOfTrailingZeros_2 ?_
  refine lv_iload_n hx hb dJ14_numberOfTrailingZeros_3 rfl (lv_at hl 0 rfl) ?_
  refine z_iconst C dJ14_numberOfTrailingZeros_4 ?_
  refine z_isubN C (x) (1) rfl rfl (by omega) dJ14_numberOfTrailingZeros_5 ?_
  refine z_notand C ((x - 1)) (x) rfl rfl dJ14_numberOfTrailingZeros_6 ?_
  refine z_nmN (fun iv_1 e_iv_1 => ?_)
  obtain ⟨t1, t2⟩ := tz_spec h0 h1
  rw [← e_iv_1] at t2
  have t3 : tz x = 0 ∨ tz x = 1 ∨ tz x = 2 ∨ tz x = 3 ∨ tz x = 4 ∨ tz x = 5 ∨ tz x = 6 ∨ tz x = 7 ∨ tz x = 8 ∨ tz x = 9 ∨ tz x = 10 ∨ tz x = 11 ∨ tz x = 12 ∨ tz x = 13 ∨ tz x = 14 ∨ tz x = 15 := by omega
  have t4 : iv_1 < 65536 := by have : 2 ^ tz x ≤ 2 ^ 16 := Nat.pow_le_pow_right (by decide) (by omega); omega
  refine lv_istore_n (lv' := [(0, .int (zI ((iv_1 : Nat) : Int)))]) hx hb dJ14_numberOfTrailingZeros_7 rfl hl (by decide) rfl (fun ls hl => ?_)
  refine lv_iload_n hx hb dJ14_numberOfTrailingZeros_8 rfl (lv_at hl 0 rfl) ?_
  refine z_if_gt (tgt := 17) C ⟨by omega, by omega⟩ dJ14_numberOfTrailingZeros_9 (by decide) (fun c_9 => ?_) (fun c_9 => ?_)
  · refine z_iconst C dJ14_numberOfTrailingZeros_17 ?_
    refine lv_istore_n (lv' := [(1, .int (zI 1)), (0, .int (zI ((iv_1 : Nat) : Int)))]) hx hb dJ14_numberOfTrailingZeros_18 rfl hl (by decide) rfl (fun ls hl => ?_)
    refine lv_iload_n hx hb dJ14_numberOfTrailingZeros_19 rfl (lv_at hl 1 rfl) ?_
    refine z_ldcw C (65536) q972 rfl dJ14_numberOfTrailingZeros_20 ?_
    refine z_icmp_le (tgt := 34) C ⟨by omega, by omega⟩ ⟨by decide, by decide⟩ dJ14_numberOfTrailingZeros_23 (by decide) (fun c_23 => ?_) (fun c_23 => ?_)
    · refine lv_iload_n hx hb dJ14_numberOfTrailingZeros_34 rfl (lv_at hl 1 rfl) ?_
      refine z_sipush C dJ14_numberOfTrailingZeros_35 rfl ?_
      refine z_icmp_le (tgt := 49) C ⟨by omega, by omega⟩ ⟨by decide, by decide⟩ dJ14_numberOfTrailingZeros_38 (by decide) (fun c_38 => ?_) (fun c_38 => ?_)
      · refine lv_iload_n hx hb dJ14_numberOfTrailingZeros_49 rfl (lv_at hl 1 rfl) ?_
        refine z_bipush C dJ14_numberOfTrailingZeros_50 rfl ?_
        refine z_icmp_le (tgt := 62) C ⟨by omega, by omega⟩ ⟨by decide, by decide⟩ dJ14_numberOfTrailingZeros_52 (by decide) (fun c_52 => ?_) (fun c_52 => ?_)
        · refine lv_iload_n hx hb dJ14_numberOfTrailingZeros_62 rfl (lv_at hl 1 rfl) ?_
          refine z_iconst C dJ14_numberOfTrailingZeros_63 ?_
          refine z_icmp_le (tgt := 74) C ⟨by omega, by omega⟩ ⟨by decide, by decide⟩ dJ14_numberOfTrailingZeros_64 (by decide) (fun c_64 => ?_) (fun c_64 => ?_)
          · refine lv_iload_n hx hb dJ14_numberOfTrailingZeros_74 rfl (lv_at hl 0 rfl) ?_
            refine lv_iload_n hx hb dJ14_numberOfTrailingZeros_75 rfl (lv_at hl 1 rfl) ?_
            refine z_iconst C dJ14_numberOfTrailingZeros_76 ?_
            refine z_iushr C (iv_1) (1) rfl rfl (by omega) (by omega) dJ14_numberOfTrailingZeros_77 ?_
            refine z_iaddN C (1) ((iv_1 / 2 ^ 1)) rfl rfl dJ14_numberOfTrailingZeros_78 ?_
            exact z_iret C hlk hr hQ (by rcases t3 with t6 | t6 | t6 | t6 | t6 | t6 | t6 | t6 | t6 | t6 | t6 | t6 | t6 | t6 | t6 | t6 <;> (rw [t6] at t2 ⊢; omega)) dJ14_numberOfTrailingZeros_79
          · refine lv_iinc (v := zI 3) (lv' := [(1, .int (zI 3)), (0, .int (zI ((iv_1 : Nat) : Int)))]) hx hb dJ14_numberOfTrailingZeros_67 hl (k := 0) rfl (zI_inc (by omega)) (by decide) rfl (fun ls hl => ?_)
            refine lv_iload_n hx hb dJ14_numberOfTrailingZeros_70 rfl (lv_at hl 1 rfl) ?_
            refine z_iconst C dJ14_numberOfTrailingZeros_71 ?_
            refine z_iushr C (iv_1) (2) rfl rfl (by omega) (by omega) dJ14_numberOfTrailingZeros_72 ?_
            refine lv_istore_n (lv' := [(0, .int (zI (((iv_1 / 2 ^ 2) : Nat) : Int))), (1, .int (zI 3))]) hx hb dJ14_numberOfTrailingZeros_73 rfl hl (by decide) rfl (fun ls hl => ?_)
            refine lv_iload_n hx hb dJ14_numberOfTrailingZeros_74 rfl (lv_at hl 1 rfl) ?_
            refine lv_iload_n hx hb dJ14_numberOfTrailingZeros_75 rfl (lv_at hl 0 rfl) ?_
            refine z_iconst C dJ14_numberOfTrailingZeros_76 ?_
            refine z_iushr C ((iv_1 / 2 ^ 2)) (1) rfl rfl (by omega) (by omega) dJ14_numberOfTrailingZeros_77 ?_
            refine z_iaddN C (3) (((iv_1 / 2 ^ 2) / 2 ^ 1)) rfl rfl dJ14_numberOfTrailingZeros_78 ?_
            exact z_iret C hlk hr hQ (by rcases t3 with t6 | t6 | t6 | t6 | t6 | t6 | t6 | t6 | t6 | t6 | t6 | t6 | t6 | t6 | t6 | t6 <;> (rw [t6] at t2 ⊢; omega)) dJ14_numberOfTrailingZeros_79
        · refine lv_iinc (v := zI 5) (lv' := [(1, .int (zI 5)), (0, .int (zI ((iv_1 : Nat) : Int)))]) hx hb dJ14_numberOfTrailingZeros_55 hl (k := 0) rfl (zI_inc (by omega)) (by decide) rfl (fun ls hl => ?_)
          refine lv_iload_n hx hb dJ14_numberOfTrailingZeros_58 rfl (lv_at hl 1 rfl) ?_
          refine z_iconst C dJ14_numberOfTrailingZeros_59 ?_
          refine z_iushr C (iv_1) (4) rfl rfl (by omega) (by omega) dJ14_numberOfTrailingZeros_60 ?_
          refine lv_istore_n (lv' := [(0, .int (zI (((iv_1 / 2 ^ 4) : Nat) : Int))), (1, .int (zI 5))]) hx hb dJ14_numberOfTrailingZeros_61 rfl hl (by decide) rfl (fun ls hl => ?_)
          refine lv_iload_n hx hb dJ14_numberOfTrailingZeros_62 rfl (lv_at hl 0 rfl) ?_
          refine z_iconst C dJ14_numberOfTrailingZeros_63 ?_
          refine z_icmp_le (tgt := 74) C ⟨by omega, by omega⟩ ⟨by decide, by decide⟩ dJ14_numberOfTrailingZeros_64 (by decide) (fun c_64 => ?_) (fun c_64 => ?_)
          · refine lv_iload_n hx hb dJ14_numberOfTrailingZeros_74 rfl (lv_at hl 1 rfl) ?_
            refine lv_iload_n hx hb dJ14_numberOfTrailingZeros_75 rfl (lv_at hl 0 rfl) ?_
            refine z_iconst C dJ14_numberOfTrailingZeros_76 ?_
            refine z_iushr C ((iv_1 / 2 ^ 4)) (1) rfl rfl (by omega) (by omega) dJ14_numberOfTrailingZeros_77 ?_
            refine z_iaddN C (5) (((iv_1 / 2 ^ 4) / 2 ^ 1)) rfl rfl dJ14_numberOfTrailingZeros_78 ?_
            exact z_iret C hlk hr hQ (by rcases t3 with t6 | t6 | t6 | t6 | t6 | t6 | t6 | t6 | t6 | t6 | t6 | t6 | t6 | t6 | t6 | t6 <;> (rw [t6] at t2 ⊢; omega)) dJ14_numberOfTrailingZeros_79
          · refine lv_iinc (v := zI 7) (lv' := [(1, .int (zI 7)), (0, .int (zI (((iv_1 / 2 ^ 4) : Nat) : Int)))]) hx hb dJ14_numberOfTrailingZeros_67 hl (k := 1) rfl (zI_inc (by omega)) (by decide) rfl (fun ls hl => ?_)
            refine lv_iload_n hx hb dJ14_numberOfTrailingZeros_70 rfl (lv_at hl 1 rfl) ?_
            refine z_iconst C dJ14_numberOfTrailingZeros_71 ?_
            refine z_iushr C ((iv_1 / 2 ^ 4)) (2) rfl rfl (by omega) (by omega) dJ14_numberOfTrailingZeros_72 ?_
            refine lv_istore_n (lv' := [(0, .int (zI ((((iv_1 / 2 ^ 4) / 2 ^ 2) : Nat) : Int))), (1, .int (zI 7))]) hx hb dJ14_numberOfTrailingZeros_73 rfl hl (by decide) rfl (fun ls hl => ?_)
            refine lv_iload_n hx hb dJ14_numberOfTrailingZeros_74 rfl (lv_at hl 1 rfl) ?_
            refine lv_iload_n hx hb dJ14_numberOfTrailingZeros_75 rfl (lv_at hl 0 rfl) ?_
            refine z_iconst C dJ14_numberOfTrailingZeros_76 ?_
            refine z_iushr C (((iv_1 / 2 ^ 4) / 2 ^ 2)) (1) rfl rfl (by omega) (by omega) dJ14_numberOfTrailingZeros_77 ?_
            refine z_iaddN C (7) ((((iv_1 / 2 ^ 4) / 2 ^ 2) / 2 ^ 1)) rfl rfl dJ14_numberOfTrailingZeros_78 ?_
            exact z_iret C hlk hr hQ (by rcases t3 with t6 | t6 | t6 | t6 | t6 | t6 | t6 | t6 | t6 | t6 | t6 | t6 | t6 | t6 | t6 | t6 <;> (rw [t6] at t2 ⊢; omega)) dJ14_numberOfTrailingZeros_79
      · refine lv_iinc (v := zI 9) (lv' := [(1, .int (zI 9)), (0, .int (zI ((iv_1 : Nat) : Int)))]) hx hb dJ14_numberOfTrailingZeros_41 hl (k := 0) rfl (zI_inc (by omega)) (by decide) rfl (fun ls hl => ?_)
        refine lv_iload_n hx hb dJ14_numberOfTrailingZeros_44 rfl (lv_at hl 1 rfl) ?_
        refine z_bipush C dJ14_numberOfTrailingZeros_45 rfl ?_
        refine z_iushr C (iv_1) (8) rfl rfl (by omega) (by omega) dJ14_numberOfTrailingZeros_47 ?_
        refine lv_istore_n (lv' := [(0, .int (zI (((iv_1 / 2 ^ 8) : Nat) : Int))), (1, .int (zI 9))]) hx hb dJ14_numberOfTrailingZeros_48 rfl hl (by decide) rfl (fun ls hl => ?_)
        refine lv_iload_n hx hb dJ14_numberOfTrailingZeros_49 rfl (lv_at hl 0 rfl) ?_
        refine z_bipush C dJ14_numberOfTrailingZeros_50 rfl ?_
        refine z_icmp_le (tgt := 62) C ⟨by omega, by omega⟩ ⟨by decide, by decide⟩ dJ14_numberOfTrailingZeros_52 (by decide) (fun c_52 => ?_) (fun c_52 => ?_)
        · refine lv_iload_n hx hb dJ14_numberOfTrailingZeros_62 rfl (lv_at hl 0 rfl) ?_
          refine z_iconst C dJ14_numberOfTrailingZeros_63 ?_
          refine z_icmp_le (tgt := 74) C ⟨by omega, by omega⟩ ⟨by decide, by decide⟩ dJ14_numberOfTrailingZeros_64 (by decide) (fun c_64 => ?_) (fun c_64 => ?_)
          · refine lv_iload_n hx hb dJ14_numberOfTrailingZeros_74 rfl (lv_at hl 1 rfl) ?_
            refine lv_iload_n hx hb dJ14_numberOfTrailingZeros_75 rfl (lv_at hl 0 rfl) ?_
            refine z_iconst C dJ14_numberOfTrailingZeros_76 ?_
            refine z_iushr C ((iv_1 / 2 ^ 8)) (1) rfl rfl (by omega) (by omega) dJ14_numberOfTrailingZeros_77 ?_
            refine z_iaddN C (9) (((iv_1 / 2 ^ 8) / 2 ^ 1)) rfl rfl dJ14_numberOfTrailingZeros_78 ?_
            exact z_iret C hlk hr hQ (by rcases t3 with t6 | t6 | t6 | t6 | t6 | t6 | t6 | t6 | t6 | t6 | t6 | t6 | t6 | t6 | t6 | t6 <;> (rw [t6] at t2 ⊢; omega)) dJ14_numberOfTrailingZeros_79
          · refine lv_iinc (v := zI 11) (lv' := [(1, .int (zI 11)), (0, .int (zI (((iv_1 / 2 ^ 8) : Nat) : Int)))]) hx hb dJ14_numberOfTrailingZeros_67 hl (k := 1) rfl (zI_inc (by omega)) (by decide) rfl (fun ls hl => ?_)
            refine lv_iload_n hx hb dJ14_numberOfTrailingZeros_70 rfl (lv_at hl 1 rfl) ?_
            refine z_iconst C dJ14_numberOfTrailingZeros_71 ?_
            refine z_iushr C ((iv_1 / 2 ^ 8)) (2) rfl rfl (by omega) (by omega) dJ14_numberOfTrailingZeros_72 ?_
            refine lv_istore_n (lv' := [(0, .int (zI ((((iv_1 / 2 ^ 8) / 2 ^ 2) : Nat) : Int))), (1, .int (zI 11))]) hx hb dJ14_numberOfTrailingZeros_73 rfl hl (by decide) rfl (fun ls hl => ?_)
            refine lv_iload_n hx hb dJ14_numberOfTrailingZeros_74 rfl (lv_at hl 1 rfl) ?_
            refine lv_iload_n hx hb dJ14_numberOfTrailingZeros_75 rfl (lv_at hl 0 rfl) ?_
            refine z_iconst C dJ14_numberOfTrailingZeros_76 ?_
            refine z_iushr C (((iv_1 / 2 ^ 8) / 2 ^ 2)) (1) rfl rfl (by omega) (by omega) dJ14_numberOfTrailingZeros_77 ?_
            refine z_iaddN C (11) ((((iv_1 / 2 ^ 8) / 2 ^ 2) / 2 ^ 1)) rfl rfl dJ14_numberOfTrailingZeros_78 ?_
            exact z_iret C hlk hr hQ (by rcases t3 with t6 | t6 | t6 | t6 | t6 | t6 | t6 | t6 | t6 | t6 | t6 | t6 | t6 | t6 | t6 | t6 <;> (rw [t6] at t2 ⊢; omega)) dJ14_numberOfTrailingZeros_79
        · refine lv_iinc (v := zI 13) (lv' := [(1, .int (zI 13)), (0, .int (zI (((iv_1 / 2 ^ 8) : Nat) : Int)))]) hx hb dJ14_numberOfTrailingZeros_55 hl (k := 1) rfl (zI_inc (by omega)) (by decide) rfl (fun ls hl => ?_)
          refine lv_iload_n hx hb dJ14_numberOfTrailingZeros_58 rfl (lv_at hl 1 rfl) ?_
          refine z_iconst C dJ14_numberOfTrailingZeros_59 ?_
          refine z_iushr C ((iv_1 / 2 ^ 8)) (4) rfl rfl (by omega) (by omega) dJ14_numberOfTrailingZeros_60 ?_
          refine lv_istore_n (lv' := [(0, .int (zI ((((iv_1 / 2 ^ 8) / 2 ^ 4) : Nat) : Int))), (1, .int (zI 13))]) hx hb dJ14_numberOfTrailingZeros_61 rfl hl (by decide) rfl (fun ls hl => ?_)
          refine lv_iload_n hx hb dJ14_numberOfTrailingZeros_62 rfl (lv_at hl 0 rfl) ?_
          refine z_iconst C dJ14_numberOfTrailingZeros_63 ?_
          refine z_icmp_le (tgt := 74) C ⟨by omega, by omega⟩ ⟨by decide, by decide⟩ dJ14_numberOfTrailingZeros_64 (by decide) (fun c_64 => ?_) (fun c_64 => ?_)
          · refine lv_iload_n hx hb dJ14_numberOfTrailingZeros_74 rfl (lv_at hl 1 rfl) ?_
            refine lv_iload_n hx hb dJ14_numberOfTrailingZeros_75 rfl (lv_at hl 0 rfl) ?_
            refine z_iconst C dJ14_numberOfTrailingZeros_76 ?_
            refine z_iushr C (((iv_1 / 2 ^ 8) / 2 ^ 4)) (1) rfl rfl (by omega) (by omega) dJ14_numberOfTrailingZeros_77 ?_
            refine z_iaddN C (13) ((((iv_1 / 2 ^ 8) / 2 ^ 4) / 2 ^ 1)) rfl rfl dJ14_numberOfTrailingZeros_78 ?_
            exact z_iret C hlk hr hQ (by rcases t3 with t6 | t6 | t6 | t6 | t6 | t6 | t6 | t6 | t6 | t6 | t6 | t6 | t6 | t6 | t6 | t6 <;> (rw [t6] at t2 ⊢; omega)) dJ14_numberOfTrailingZeros_79
          · refine lv_iinc (v := zI 15) (lv' := [(1, .int (zI 15)), (0, .int (zI ((((iv_1 / 2 ^ 8) / 2 ^ 4) : Nat) : Int)))]) hx hb dJ14_numberOfTrailingZeros_67 hl (k := 1) rfl (zI_inc (by omega)) (by decide) rfl (fun ls hl => ?_)
            refine lv_iload_n hx hb dJ14_numberOfTrailingZeros_70 rfl (lv_at hl 1 rfl) ?_
            refine z_iconst C dJ14_numberOfTrailingZeros_71 ?_
            refine z_iushr C (((iv_1 / 2 ^ 8) / 2 ^ 4)) (2) rfl rfl (by omega) (by omega) dJ14_numberOfTrailingZeros_72 ?_
            refine lv_istore_n (lv' := [(0, .int (zI (((((iv_1 / 2 ^ 8) / 2 ^ 4) / 2 ^ 2) : Nat) : Int))), (1, .int (zI 15))]) hx hb dJ14_numberOfTrailingZeros_73 rfl hl (by decide) rfl (fun ls hl => ?_)
            refine lv_iload_n hx hb dJ14_numberOfTrailingZeros_74 rfl (lv_at hl 1 rfl) ?_
            refine lv_iload_n hx hb dJ14_numberOfTrailingZeros_75 rfl (lv_at hl 0 rfl) ?_
            refine z_iconst C dJ14_numberOfTrailingZeros_76 ?_
            refine z_iushr C ((((iv_1 / 2 ^ 8) / 2 ^ 4) / 2 ^ 2)) (1) rfl rfl (by omega) (by omega) dJ14_numberOfTrailingZeros_77 ?_
            refine z_iaddN C (15) (((((iv_1 / 2 ^ 8) / 2 ^ 4) / 2 ^ 2) / 2 ^ 1)) rfl rfl dJ14_numberOfTrailingZeros_78 ?_
            exact z_iret C hlk hr hQ (by rcases t3 with t6 | t6 | t6 | t6 | t6 | t6 | t6 | t6 | t6 | t6 | t6 | t6 | t6 | t6 | t6 | t6 <;> (rw [t6] at t2 ⊢; omega)) dJ14_numberOfTrailingZeros_79
    · refine lv_iinc (v := zI 17) (lv' := [(1, .int (zI 17)), (0, .int (zI ((iv_1 : Nat) : Int)))]) hx hb dJ14_numberOfTrailingZeros_26 hl (k := 0) rfl (zI_inc (by omega)) (by decide) rfl (fun ls hl => ?_)
      refine lv_iload_n hx hb dJ14_numberOfTrailingZeros_29 rfl (lv_at hl 1 rfl) ?_
      refine z_bipush C dJ14_numberOfTrailingZeros_30 rfl ?_
      refine z_iushr C (iv_1) (16) rfl rfl (by omega) (by omega) dJ14_numberOfTrailingZeros_32 ?_
      refine lv_istore_n (lv' := [(0, .int (zI (((iv_1 / 2 ^ 16) : Nat) : Int))), (1, .int (zI 17))]) hx hb dJ14_numberOfTrailingZeros_33 rfl hl (by decide) rfl (fun ls hl => ?_)
      refine lv_iload_n hx hb dJ14_numberOfTrailingZeros_34 rfl (lv_at hl 0 rfl) ?_
      refine z_sipush C dJ14_numberOfTrailingZeros_35 rfl ?_
      refine z_icmp_le (tgt := 49) C ⟨by omega, by omega⟩ ⟨by decide, by decide⟩ dJ14_numberOfTrailingZeros_38 (by decide) (fun c_38 => ?_) (fun c_38 => ?_)
      · refine lv_iload_n hx hb dJ14_numberOfTrailingZeros_49 rfl (lv_at hl 0 rfl) ?_
        refine z_bipush C dJ14_numberOfTrailingZeros_50 rfl ?_
        refine z_icmp_le (tgt := 62) C ⟨by omega, by omega⟩ ⟨by decide, by decide⟩ dJ14_numberOfTrailingZeros_52 (by decide) (fun c_52 => ?_) (fun c_52 => ?_)
        · refine lv_iload_n hx hb dJ14_numberOfTrailingZeros_62 rfl (lv_at hl 0 rfl) ?_
          refine z_iconst C dJ14_numberOfTrailingZeros_63 ?_
          refine z_icmp_le (tgt := 74) C ⟨by omega, by omega⟩ ⟨by decide, by decide⟩ dJ14_numberOfTrailingZeros_64 (by decide) (fun c_64 => ?_) (fun c_64 => ?_)
          · refine lv_iload_n hx hb dJ14_numberOfTrailingZeros_74 rfl (lv_at hl 1 rfl) ?_
            refine lv_iload_n hx hb dJ14_numberOfTrailingZeros_75 rfl (lv_at hl 0 rfl) ?_
            refine z_iconst C dJ14_numberOfTrailingZeros_76 ?_
            refine z_iushr C ((iv_1 / 2 ^ 16)) (1) rfl rfl (by omega) (by omega) dJ14_numberOfTrailingZeros_77 ?_
            refine z_iaddN C (17) (((iv_1 / 2 ^ 16) / 2 ^ 1)) rfl rfl dJ14_numberOfTrailingZeros_78 ?_
            exact z_iret C hlk hr hQ (by rcases t3 with t6 | t6 | t6 | t6 | t6 | t6 | t6 | t6 | t6 | t6 | t6 | t6 | t6 | t6 | t6 | t6 <;> (rw [t6] at t2 ⊢; omega)) dJ14_numberOfTrailingZeros_79
          · refine lv_iinc (v := zI 19) (lv' := [(1, .int (zI 19)), (0, .int (zI (((iv_1 / 2 ^ 16) : Nat) : Int)))]) hx hb dJ14_numberOfTrailingZeros_67 hl (k := 1) rfl (zI_inc (by omega)) (by decide) rfl (fun ls hl => ?_)
            refine lv_iload_n hx hb dJ14_numberOfTrailingZeros_70 rfl (lv_at hl 1 rfl) ?_
            refine z_iconst C dJ14_numberOfTrailingZeros_71 ?_
            refine z_iushr C ((iv_1 / 2 ^ 16)) (2) rfl rfl (by omega) (by omega) dJ14_numberOfTrailingZeros_72 ?_
            refine lv_istore_n (lv' := [(0, .int (zI ((((iv_1 / 2 ^ 16) / 2 ^ 2) : Nat) : Int))), (1, .int (zI 19))]) hx hb dJ14_numberOfTrailingZeros_73 rfl hl (by decide) rfl (fun ls hl => ?_)
            refine lv_iload_n hx hb dJ14_numberOfTrailingZeros_74 rfl (lv_at hl 1 rfl) ?_
            refine lv_iload_n hx hb dJ14_numberOfTrailingZeros_75 rfl (lv_at hl 0 rfl) ?_
            refine z_iconst C dJ14_numberOfTrailingZeros_76 ?_
            refine z_iushr C (((iv_1 / 2 ^ 16) / 2 ^ 2)) (1) rfl rfl (by omega) (by omega) dJ14_numberOfTrailingZeros_77 ?_
            refine z_iaddN C (19) ((((iv_1 / 2 ^ 16) / 2 ^ 2) / 2 ^ 1)) rfl rfl dJ14_numberOfTrailingZeros_78 ?_
            exact z_iret C hlk hr hQ (by rcases t3 with t6 | t6 | t6 | t6 | t6 | t6 | t6 | t6 | t6 | t6 | t6 | t6 | t6 | t6 | t6 | t6 <;> (rw [t6] at t2 ⊢; omega)) dJ14_numberOfTrailingZeros_79
        · refine lv_iinc (v := zI 21) (lv' := [(1, .int (zI 21)), (0, .int (zI (((iv_1 / 2 ^ 16) : Nat) : Int)))]) hx hb dJ14_numberOfTrailingZeros_55 hl (k := 1) rfl (zI_inc (by omega)) (by decide) rfl (fun ls hl => ?_)
          refine lv_iload_n hx hb dJ14_numberOfTrailingZeros_58 rfl (lv_at hl 1 rfl) ?_
          refine z_iconst C dJ14_numberOfTrailingZeros_59 ?_
          refine z_iushr C ((iv_1 / 2 ^ 16)) (4) rfl rfl (by omega) (by omega) dJ14_numberOfTrailingZeros_60 ?_
          refine lv_istore_n (lv' := [(0, .int (zI ((((iv_1 / 2 ^ 16) / 2 ^ 4) : Nat) : Int))), (1, .int (zI 21))]) hx hb dJ14_numberOfTrailingZeros_61 rfl hl (by decide) rfl (fun ls hl => ?_)
          refine lv_iload_n hx hb dJ14_numberOfTrailingZeros_62 rfl (lv_at hl 0 rfl) ?_
          refine z_iconst C dJ14_numberOfTrailingZeros_63 ?_
          refine z_icmp_le (tgt := 74) C ⟨by omega, by omega⟩ ⟨by decide, by decide⟩ dJ14_numberOfTrailingZeros_64 (by decide) (fun c_64 => ?_) (fun c_64 => ?_)
          · refine lv_iload_n hx hb dJ14_numberOfTrailingZeros_74 rfl (lv_at hl 1 rfl) ?_
            refine lv_iload_n hx hb dJ14_numberOfTrailingZeros_75 rfl (lv_at hl 0 rfl) ?_
            refine z_iconst C dJ14_numberOfTrailingZeros_76 ?_
            refine z_iushr C (((iv_1 / 2 ^ 16) / 2 ^ 4)) (1) rfl rfl (by omega) (by omega) dJ14_numberOfTrailingZeros_77 ?_
            refine z_iaddN C (21) ((((iv_1 / 2 ^ 16) / 2 ^ 4) / 2 ^ 1)) rfl rfl dJ14_numberOfTrailingZeros_78 ?_
            exact z_iret C hlk hr hQ (by rcases t3 with t6 | t6 | t6 | t6 | t6 | t6 | t6 | t6 | t6 | t6 | t6 | t6 | t6 | t6 | t6 | t6 <;> (rw [t6] at t2 ⊢; omega)) dJ14_numberOfTrailingZeros_79
          · refine lv_iinc (v := zI 23) (lv' := [(1, .int (zI 23)), (0, .int (zI ((((iv_1 / 2 ^ 16) / 2 ^ 4) : Nat) : Int)))]) hx hb dJ14_numberOfTrailingZeros_67 hl (k := 1) rfl (zI_inc (by omega)) (by decide) rfl (fun ls hl => ?_)
            refine lv_iload_n hx hb dJ14_numberOfTrailingZeros_70 rfl (lv_at hl 1 rfl) ?_
            refine z_iconst C dJ14_numberOfTrailingZeros_71 ?_
            refine z_iushr C (((iv_1 / 2 ^ 16) / 2 ^ 4)) (2) rfl rfl (by omega) (by omega) dJ14_numberOfTrailingZeros_72 ?_
            refine lv_istore_n (lv' := [(0, .int (zI (((((iv_1 / 2 ^ 16) / 2 ^ 4) / 2 ^ 2) : Nat) : Int))), (1, .int (zI 23))]) hx hb dJ14_numberOfTrailingZeros_73 rfl hl (by decide) rfl (fun ls hl => ?_)
            refine lv_iload_n hx hb dJ14_numberOfTrailingZeros_74 rfl (lv_at hl 1 rfl) ?_
            refine lv_iload_n hx hb dJ14_numberOfTrailingZeros_75 rfl (lv_at hl 0 rfl) ?_
            refine z_iconst C dJ14_numberOfTrailingZeros_76 ?_
            refine z_iushr C ((((iv_1 / 2 ^ 16) / 2 ^ 4) / 2 ^ 2)) (1) rfl rfl (by omega) (by omega) dJ14_numberOfTrailingZeros_77 ?_
            refine z_iaddN C (23) (((((iv_1 / 2 ^ 16) / 2 ^ 4) / 2 ^ 2) / 2 ^ 1)) rfl rfl dJ14_numberOfTrailingZeros_78 ?_
            exact z_iret C hlk hr hQ (by rcases t3 with t6 | t6 | t6 | t6 | t6 | t6 | t6 | t6 | t6 | t6 | t6 | t6 | t6 | t6 | t6 | t6 <;> (rw [t6] at t2 ⊢; omega)) dJ14_numberOfTrailingZeros_79
      · refine lv_iinc (v := zI 25) (lv' := [(1, .int (zI 25)), (0, .int (zI (((iv_1 / 2 ^ 16) : Nat) : Int)))]) hx hb dJ14_numberOfTrailingZeros_41 hl (k := 1) rfl (zI_inc (by omega)) (by decide) rfl (fun ls hl => ?_)
        refine lv_iload_n hx hb dJ14_numberOfTrailingZeros_44 rfl (lv_at hl 1 rfl) ?_
        refine z_bipush C dJ14_numberOfTrailingZeros_45 rfl ?_
        refine z_iushr C ((iv_1 / 2 ^ 16)) (8) rfl rfl (by omega) (by omega) dJ14_numberOfTrailingZeros_47 ?_
        refine lv_istore_n (lv' := [(0, .int (zI ((((iv_1 / 2 ^ 16) / 2 ^ 8) : Nat) : Int))), (1, .int (zI 25))]) hx hb dJ14_numberOfTrailingZeros_48 rfl hl (by decide) rfl (fun ls hl => ?_)
        refine lv_iload_n hx hb dJ14_numberOfTrailingZeros_49 rfl (lv_at hl 0 rfl) ?_
        refine z_bipush C dJ14_numberOfTrailingZeros_50 rfl ?_
        refine z_icmp_le (tgt := 62) C ⟨by omega, by omega⟩ ⟨by decide, by decide⟩ dJ14_numberOfTrailingZeros_52 (by decide) (fun c_52 => ?_) (fun c_52 => ?_)
        · refine lv_iload_n hx hb dJ14_numberOfTrailingZeros_62 rfl (lv_at hl 0 rfl) ?_
          refine z_iconst C dJ14_numberOfTrailingZeros_63 ?_
          refine z_icmp_le (tgt := 74) C ⟨by omega, by omega⟩ ⟨by decide, by decide⟩ dJ14_numberOfTrailingZeros_64 (by decide) (fun c_64 => ?_) (fun c_64 => ?_)
          · refine lv_iload_n hx hb dJ14_numberOfTrailingZeros_74 rfl (lv_at hl 1 rfl) ?_
            refine lv_iload_n hx hb dJ14_numberOfTrailingZeros_75 rfl (lv_at hl 0 rfl) ?_
            refine z_iconst C dJ14_numberOfTrailingZeros_76 ?_
            refine z_iushr C (((iv_1 / 2 ^ 16) / 2 ^ 8)) (1) rfl rfl (by omega) (by omega) dJ14_numberOfTrailingZeros_77 ?_
            refine z_iaddN C (25) ((((iv_1 / 2 ^ 16) / 2 ^ 8) / 2 ^ 1)) rfl rfl dJ14_numberOfTrailingZeros_78 ?_
            exact z_iret C hlk hr hQ (by rcases t3 with t6 | t6 | t6 | t6 | t6 | t6 | t6 | t6 | t6 | t6 | t6 | t6 | t6 | t6 | t6 | t6 <;> (rw [t6] at t2 ⊢; omega)) dJ14_numberOfTrailingZeros_79
          · refine lv_iinc (v := zI 27) (lv' := [(1, .int (zI 27)), (0, .int (zI ((((iv_1 / 2 ^ 16) / 2 ^ 8) : Nat) : Int)))]) hx hb dJ14_numberOfTrailingZeros_67 hl (k := 1) rfl (zI_inc (by omega)) (by decide) rfl (fun ls hl => ?_)
            refine lv_iload_n hx hb dJ14_numberOfTrailingZeros_70 rfl (lv_at hl 1 rfl) ?_
            refine z_iconst C dJ14_numberOfTrailingZeros_71 ?_
            refine z_iushr C (((iv_1 / 2 ^ 16) / 2 ^ 8)) (2) rfl rfl (by omega) (by omega) dJ14_numberOfTrailingZeros_72 ?_
            refine lv_istore_n (lv' := [(0, .int (zI (((((iv_1 / 2 ^ 16) / 2 ^ 8) / 2 ^ 2) : Nat) : Int))), (1, .int (zI 27))]) hx hb dJ14_numberOfTrailingZeros_73 rfl hl (by decide) rfl (fun ls hl => ?_)
            refine lv_iload_n hx hb dJ14_numberOfTrailingZeros_74 rfl (lv_at hl 1 rfl) ?_
            refine lv_iload_n hx hb dJ14_numberOfTrailingZeros_75 rfl (lv_at hl 0 rfl) ?_
            refine z_iconst C dJ14_numberOfTrailingZeros_76 ?_
            refine z_iushr C ((((iv_1 / 2 ^ 16) / 2 ^ 8) / 2 ^ 2)) (1) rfl rfl (by omega) (by omega) dJ14_numberOfTrailingZeros_77 ?_
            refine z_iaddN C (27) (((((iv_1 / 2 ^ 16) / 2 ^ 8) / 2 ^ 2) / 2 ^ 1)) rfl rfl dJ14_numberOfTrailingZeros_78 ?_
            exact z_iret C hlk hr hQ (by rcases t3 with t6 | t6 | t6 | t6 | t6 | t6 | t6 | t6 | t6 | t6 | t6 | t6 | t6 | t6 | t6 | t6 <;> (rw [t6] at t2 ⊢; omega)) dJ14_numberOfTrailingZeros_79
        · refine lv_iinc (v := zI 29) (lv' := [(1, .int (zI 29)), (0, .int (zI ((((iv_1 / 2 ^ 16) / 2 ^ 8) : Nat) : Int)))]) hx hb dJ14_numberOfTrailingZeros_55 hl (k := 1) rfl (zI_inc (by omega)) (by decide) rfl (fun ls hl => ?_)
          refine lv_iload_n hx hb dJ14_numberOfTrailingZeros_58 rfl (lv_at hl 1 rfl) ?_
          refine z_iconst C dJ14_numberOfTrailingZeros_59 ?_
          refine z_iushr C (((iv_1 / 2 ^ 16) / 2 ^ 8)) (4) rfl rfl (by omega) (by omega) dJ14_numberOfTrailingZeros_60 ?_
          refine lv_istore_n (lv' := [(0, .int (zI (((((iv_1 / 2 ^ 16) / 2 ^ 8) / 2 ^ 4) : Nat) : Int))), (1, .int (zI 29))]) hx hb dJ14_numberOfTrailingZeros_61 rfl hl (by decide) rfl (fun ls hl => ?_)
          refine lv_iload_n hx hb dJ14_numberOfTrailingZeros_62 rfl (lv_at hl 0 rfl) ?_
          refine z_iconst C dJ14_numberOfTrailingZeros_63 ?_
          refine z_icmp_le (tgt := 74) C ⟨by omega, by omega⟩ ⟨by decide, by decide⟩ dJ14_numberOfTrailingZeros_64 (by decide) (fun c_64 => ?_) (fun c_64 => ?_)
          · refine lv_iload_n hx hb dJ14_numberOfTrailingZeros_74 rfl (lv_at hl 1 rfl) ?_
            refine lv_iload_n hx hb dJ14_numberOfTrailingZeros_75 rfl (lv_at hl 0 rfl) ?_
            refine z_iconst C dJ14_numberOfTrailingZeros_76 ?_
            refine z_iushr C ((((iv_1 / 2 ^ 16) / 2 ^ 8) / 2 ^ 4)) (1) rfl rfl (by omega) (by omega) dJ14_numberOfTrailingZeros_77 ?_
            refine z_iaddN C (29) (((((iv_1 / 2 ^ 16) / 2 ^ 8) / 2 ^ 4) / 2 ^ 1)) rfl rfl dJ14_numberOfTrailingZeros_78 ?_
            exact z_iret C hlk hr hQ (by rcases t3 with t6 | t6 | t6 | t6 | t6 | t6 | t6 | t6 | t6 | t6 | t6 | t6 | t6 | t6 | t6 | t6 <;> (rw [t6] at t2 ⊢; omega)) dJ14_numberOfTrailingZeros_79
          · refine lv_iinc (v := zI 31) (lv' := [(1, .int (zI 31)), (0, .int (zI (((((iv_1 / 2 ^ 16) / 2 ^ 8) / 2 ^ 4) : Nat) : Int)))]) hx hb dJ14_numberOfTrailingZeros_67 hl (k := 1) rfl (zI_inc (by omega)) (by decide) rfl (fun ls hl => ?_)
            refine lv_iload_n hx hb dJ14_numberOfTrailingZeros_70 rfl (lv_at hl 1 rfl) ?_
            refine z_iconst C dJ14_numberOfTrailingZeros_71 ?_
            refine z_iushr C ((((iv_1 / 2 ^ 16) / 2 ^ 8) / 2 ^ 4)) (2) rfl rfl (by omega) (by omega) dJ14_numberOfTrailingZeros_72 ?_
            refine lv_istore_n (lv' := [(0, .int (zI ((((((iv_1 / 2 ^ 16) / 2 ^ 8) / 2 ^ 4) / 2 ^ 2) : Nat) : Int))), (1, .int (zI 31))]) hx hb dJ14_numberOfTrailingZeros_73 rfl hl (by decide) rfl (fun ls hl => ?_)
            refine lv_iload_n hx hb dJ14_numberOfTrailingZeros_74 rfl (lv_at hl 1 rfl) ?_
            refine lv_iload_n hx hb dJ14_numberOfTrailingZeros_75 rfl (lv_at hl 0 rfl) ?_
            refine z_iconst C dJ14_numberOfTrailingZeros_76 ?_
            refine z_iushr C (((((iv_1 / 2 ^ 16) / 2 ^ 8) / 2 ^ 4) / 2 ^ 2)) (1) rfl rfl (by omega) (by omega) dJ14_numberOfTrailingZeros_77 ?_
            refine z_iaddN C (31) ((((((iv_1 / 2 ^ 16) / 2 ^ 8) / 2 ^ 4) / 2 ^ 2) / 2 ^ 1)) rfl rfl dJ14_numberOfTrailingZeros_78 ?_
            exact z_iret C hlk hr hQ (by rcases t3 with t6 | t6 | t6 | t6 | t6 | t6 | t6 | t6 | t6 | t6 | t6 | t6 | t6 | t6 | t6 | t6 <;> (rw [t6] at t2 ⊢; omega)) dJ14_numberOfTrailingZeros_79
  · refine lv_iload_n hx hb dJ14_numberOfTrailingZeros_12 rfl (lv_at hl 0 rfl) ?_
    refine z_bipush C dJ14_numberOfTrailingZeros_13 rfl ?_
    refine z_iand C (iv_1) (32) rfl rfl dJ14_numberOfTrailingZeros_15 ?_
    exact z_iret C hlk hr hQ (by have t5 : iv_1 = 0 := (by omega); rw [t5]; rcases t3 with t6 | t6 | t6 | t6 | t6 | t6 | t6 | t6 | t6 | t6 | t6 | t6 | t6 | t6 | t6 | t6 <;> (rw [t6] at t2; first | (rw [t6]; rfl) | omega)) dJ14_numberOfTrailingZeros_16
set_option maxHeartbeats 600000 in
set_option maxRecDepth 100000 in
theorem k_X0_many (l : Launch) (D : va_G) (dA : Nat → ClassId) (x : Nat) (h1 : x < 65536) : zM l yX0_many cX0_many 1 (some .int) (zRm 1 20) D dA [.int (zI ((x : Nat) : Int))] [] (some (.int (zI ((pop x : Nat) : Int)))) := by
  refine zM.of (by decide +kernel) rfl ?_
  intro pp ee ss mm args below meth cd Q C hr hlk hQ hP ls hl
  have hx := C.1.1
  have hb := C.1.2.1
  have hl : lv_has ls 1 [(0, .int (zI ((x : Nat) : Int)))] := hl
  refine lv_iload_n hx hb dX0_many_0 rfl (lv_at hl 0 rfl) ?_
  refine z_cS (n := 1) (As := [.int (zI ((x : Nat) : Int))]) (rest := []) C (k_J14_bitCount l D dA (x) (by first | with_reducible assumption | omega | with_reducible rfl)) (lw_S q1267 q1268 q133 q1269) (by decide +kernel) rfl ⟨Nat.le_of_ble_eq_true rfl, Nat.le_of_ble_eq_true rfl⟩ hl.1 (hP.sub [] rfl) rfl (Nat.le_of_ble_eq_true rfl) dX0_many_1 (Nat.zero_le _) (Nat.zero_le _) ?_
  exact z_iret C hlk hr hQ (by first | rfl | omega) dX0_many_4
