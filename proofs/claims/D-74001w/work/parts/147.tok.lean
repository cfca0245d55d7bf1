/-! Tokens: words (printed by tools/s_tok.py) -/
/-- word j stands at x .. y, up to k -/
def wdP (tf : Nat → Int) (x y j k : Nat) : Prop := zLen.getD (j + 1) 0 = y - x ∧ ∀ m, m < k - x → (zch (j + 1) m : Int) = tf (x + m)
theorem wd_0 {tf : Nat → Int} {x y j : Nat} : wdP tf x y j x ↔ zLen.getD (j + 1) 0 = y - x := ⟨fun h => h.1, fun h => ⟨h, fun m hm => by omega⟩⟩
theorem wd_mono {tf : Nat → Int} {x y j k : Nat} (hk : k ≤ y) (h : wdP tf x y j y) : wdP tf x y j k := ⟨h.1, fun m hm => h.2 m (by omega)⟩
theorem wd_end {tf : Nat → Int} {x y j k : Nat} (hk : y ≤ k) (h : wdP tf x y j k) : wdP tf x y j y := ⟨h.1, fun m hm => h.2 m (by omega)⟩
theorem wd_s {tf : Nat → Int} {x y j k : Nat} (hx : x ≤ k) (h : wdP tf x y j k) : wdP tf x y j (k + 1) ↔ (zch (j + 1) (k - x) : Int) = tf k := by
  constructor
  · intro q
    have := q.2 (k - x) (by omega)
    rwa [show x + (k - x) = k by omega] at this
  · intro q
    refine ⟨h.1, fun m hm => ?_⟩
    by_cases e : m = k - x
    · subst e; rw [show x + (k - x) = k by omega]; exact q
    · exact h.2 m (by omega)
theorem wd_next {tf : Nat → Int} {x y j : Nat} (h : ∀ i, i < j → ¬ wdP tf x y i y) (hj : ¬ wdP tf x y j y) : ∀ i, i < j + 1 → ¬ wdP tf x y i y := by
  intro i hi
  by_cases e : i = j
  · subst e; exact hj
  · exact h i (by omega)

set_option maxHeartbeats 600000 in
set_option maxRecDepth 100000 in
theorem k_X2_word (l : Launch) (D : va_G) (dA : Nat → ClassId) (en : Nat → Nat → Nat) (a qt tp qs qf qo qw mn : Nat) (qx : Nat) (tf : Nat → Int) (wf : Nat → Option Nat) (x y : Nat) (w9 : Int) (htp : tp ≤ 2000) (btf : ∀ j, -128 ≤ tf j ∧ tf j ≤ 127) (hw : ∀ j, j < 11 → wf j = some (en 4 (j + 1))) (hxy : x ≤ y ∧ y ≤ 2000) (he : (∀ j, j < 11 → wdP tf x y j y → (∀ i, i < j → ¬ wdP tf x y i y) → w9 = (j : Int)) ∧ ((∀ i, i < 11 → ¬ wdP tf x y i y) → w9 = -1)) : zN l yX2_word cX2_word 6 (some .int) (zRm 4 85) en ([], []) D dA [.ref (a), .int (zI ((x : Nat) : Int)), .int (zI ((y : Nat) : Int))] [(a, .inr (2, [.ref (qx), .ref (qt), .int (zI ((tp : Nat) : Int)), .ref (qs), .ref (qf), .ref (qo), .ref (qw), .int (zI ((mn : Nat) : Int))])), (qx, .inl (dA 8, 11, .inr (.inr (.inr (.inr (wf)))))), (qt, .inl (dA 1, 2000, .inl (fun jz => zI (tf jz))))] (some (.int (zI (w9)))) := by
  refine zN.of (by decide +kernel) rfl ?_
  intro pp ee ss mm args below meth cd Q C hr hlk hQ hV hP ls hl
  have hx := C.1.1
  have hb := C.1.2.1
  have hl : lv_has ls 6 [(0, .ref (a)), (1, .int (zI ((x : Nat) : Int))), (2, .int (zI ((y : Nat) : Int)))] := hl
  refine z_iconst C dX2_word_0 ?_
  refine lv_istore_n (lv' := [(3, .int (zI 0)), (0, .ref (a)), (1, .int (zI ((x : Nat) : Int))), (2, .int (zI ((y : Nat) : Int)))]) hx hb dX2_word_1 rfl hl (by decide) rfl (fun ls hl => ?_)
  have L2 : ∀ (N : Nat) (j : Nat), (j ≤ 11) → (∀ i, i < j → ¬ wdP tf x y i y) → (11 - j) < N → ∀ ls : Array Slot, lv_has ls 6 [(0, .ref (a)), (1, .int (zI ((x : Nat) : Int))), (2, .int (zI ((y : Nat) : Int))), (3, .int (zI ((j : Nat) : Int)))] → W pp l ee (zRm 4 85) ss mm args below meth cd ss.heap [] 0 0 Q (F0 mm 2 ls []) := by
    intro N
    induction N with
    | zero => intro j _ _ hm; exact absurd hm (Nat.not_lt_zero _)
    | succ N ih2 =>
      intro j hj hno hmz2 ls hl
      refine lv_iload_n hx hb dX2_word_2 rfl (lv_at hl 3 rfl) ?_
      refine lv_aload_n hx hb dX2_word_3 rfl (lv_at hl 0 rfl) ?_
      refine z_get C hP 0 rfl rfl in_X2 0 (by decide) q250 rfl dX2_word_4 ?_
      refine z_alen C hP 1 8 rfl rfl rfl dX2_word_7 ?_
      refine z_icmp_ge (tgt := 96) C ⟨by omega, by omega⟩ ⟨by omega, by omega⟩ dX2_word_8 (by decide) (fun c_8 => ?_) (fun c_8 => ?_)
      · refine z_iconst C dX2_word_96 ?_
        exact z_iret C hlk hr hQ (he.2 (fun i hi => hno i (by omega))).symm dX2_word_97
      · refine lv_aload_n hx hb dX2_word_11 rfl (lv_at hl 0 rfl) ?_
        refine z_get C hP 0 rfl rfl in_X2 0 (by decide) q250 rfl dX2_word_12 ?_
        refine lv_iload_n hx hb dX2_word_15 rfl (lv_at hl 3 rfl) ?_
        refine z_aaldW C hP 1 8 rfl rfl (j) rfl (by omega) (by first | decide | omega) dX2_word_16 ?_
        rw [hw j (by omega)]
        refine z_nV (n := 0) (As := []) (rest := []) C hV (k_J7_length l D dA en ((j + 1)) (by first | with_reducible assumption | omega | with_reducible rfl)) (lw_V q622 q623 q624 q125 q625) (by decide +kernel) rfl ⟨Nat.le_of_ble_eq_true rfl, Nat.le_of_ble_eq_true rfl⟩ hl.1 (hP.sub [] rfl) (vk_recv (H := ss.heap) (locs := []) (i := j + 1) hV.1.2.2.2.2.2.2.2.1 (by omega) va_S.rf) rfl (Nat.le_of_ble_eq_true rfl) dX2_word_17 (Nat.zero_le _) (Nat.zero_le _) ?_
        have hl6_8 := zLen_le (j + 1) (by omega)
        refine lv_iload_n hx hb dX2_word_20 rfl (lv_at hl 2 rfl) ?_
        refine lv_iload_n hx hb dX2_word_21 rfl (lv_at hl 1 rfl) ?_
        refine z_isubN C (y) (x) rfl rfl (by omega) dX2_word_22 ?_
        refine z_icmp_ne (tgt := 30) C ⟨by omega, by omega⟩ ⟨by omega, by omega⟩ dX2_word_23 (by decide) (fun c_23 => ?_) (fun c_23 => ?_)
        · refine z_iconst C dX2_word_30 ?_
          refine lv_istore (lv' := [(4, .int (zI 0)), (0, .ref (a)), (1, .int (zI ((x : Nat) : Int))), (2, .int (zI ((y : Nat) : Int))), (3, .int (zI ((j : Nat) : Int)))]) hx hb dX2_word_31 hl (by decide) rfl (fun ls hl => ?_)
          refine lv_iload_n hx hb dX2_word_33 rfl (lv_at hl 2 rfl) ?_
          refine lv_istore (lv' := [(5, .int (zI ((x : Nat) : Int))), (4, .int (zI 0)), (0, .ref (a)), (1, .int (zI ((x : Nat) : Int))), (2, .int (zI ((y : Nat) : Int))), (3, .int (zI ((j : Nat) : Int)))]) hx hb dX2_word_34 hl (by decide) rfl (fun ls hl => ?_)
          have L36 : ∀ (N : Nat) (k : Nat) (fb : Bool), (x ≤ k ∧ k ≤ y) → (fb = true ↔ wdP tf x y j k) → (y - k) < N → ∀ ls : Array Slot, lv_has ls 6 [(0, .ref (a)), (1, .int (zI ((x : Nat) : Int))), (2, .int (zI ((y : Nat) : Int))), (3, .int (zI ((j : Nat) : Int))), (4, .int (zB (fb))), (5, .int (zI ((k : Nat) : Int)))] → W pp l ee (zRm 4 85) ss mm args below meth cd ss.heap [] 0 0 Q (F0 mm 36 ls []) := by
            intro N
            induction N with
            | zero => intro k fb _ _ hm; exact absurd hm (Nat.not_lt_zero _)
            | succ N ih36 =>
              intro k fb hk hfb hmz36 ls hl
              refine lv_iload hx hb dX2_word_36 (lv_at hl 5 rfl) ?_
              refine lv_iload_n hx hb dX2_word_38 rfl (lv_at hl 2 rfl) ?_
              refine z_icmp_ge (tgt := 83) C ⟨by omega, by omega⟩ ⟨by omega, by omega⟩ dX2_word_39 (by decide) (fun c_39 => ?_) (fun c_39 => ?_)
              · refine lv_iload hx hb dX2_word_83 (lv_at hl 4 rfl) ?_
                refine z_if_eqB (tgt := 90) C dX2_word_85 (by decide) (fun c_85 => ?_) (fun c_85 => ?_)
                · refine lv_iinc (v := zI ((j + 1 : Nat) : Int)) (lv' := [(3, .int (zI ((j + 1 : Nat) : Int))), (0, .ref (a)), (1, .int (zI ((x : Nat) : Int))), (2, .int (zI ((y : Nat) : Int))), (4, .int (zB (fb))), (5, .int (zI ((k : Nat) : Int)))]) hx hb dX2_word_90 hl (k := 3) rfl (zI_inc (by omega)) (by decide) rfl (fun ls hl => ?_)
                  refine lv_goto (tgt := 2) hx hb dX2_word_93 (by decide) ?_
                  exact ih2 (j + 1) (by first | with_reducible assumption | omega | with_reducible rfl) (wd_next hno (fun h9 => absurd (hfb.2 (wd_mono hk.2 h9)) (by simp_all))) (by omega) ls (lv_sub hl [1, 2, 3, 0] rfl)
                · refine lv_iload_n hx hb dX2_word_88 rfl (lv_at hl 3 rfl) ?_
                  exact z_iret C hlk hr hQ (by first | (exact absurd (c_85.symm.trans c_44) (by simp)) | (exact (he.1 j (by omega) (wd_end (by omega) (hfb.1 c_85)) hno).symm)) dX2_word_89
              · refine lv_iload hx hb dX2_word_42 (lv_at hl 4 rfl) ?_
                refine z_if_eqB (tgt := 83) C dX2_word_44 (by decide) (fun c_44 => ?_) (fun c_44 => ?_)
                · refine lv_iload hx hb dX2_word_83 (lv_at hl 4 rfl) ?_
                  refine z_if_eqB (tgt := 90) C dX2_word_85 (by decide) (fun c_85 => ?_) (fun c_85 => ?_)
                  · refine lv_iinc (v := zI ((j + 1 : Nat) : Int)) (lv' := [(3, .int (zI ((j + 1 : Nat) : Int))), (0, .ref (a)), (1, .int (zI ((x : Nat) : Int))), (2, .int (zI ((y : Nat) : Int))), (4, .int (zB (fb))), (5, .int (zI ((k : Nat) : Int)))]) hx hb dX2_word_90 hl (k := 3) rfl (zI_inc (by omega)) (by decide) rfl (fun ls hl => ?_)
                    refine lv_goto (tgt := 2) hx hb dX2_word_93 (by decide) ?_
                    exact ih2 (j + 1) (by first | with_reducible assumption | omega | with_reducible rfl) (wd_next hno (fun h9 => absurd (hfb.2 (wd_mono hk.2 h9)) (by simp_all))) (by omega) ls (lv_sub hl [1, 2, 3, 0] rfl)
                  · refine lv_iload_n hx hb dX2_word_88 rfl (lv_at hl 3 rfl) ?_
                    exact z_iret C hlk hr hQ (by first | (exact absurd (c_85.symm.trans c_44) (by simp)) | (exact (he.1 j (by omega) (wd_end (by omega) (hfb.1 c_85)) hno).symm)) dX2_word_89
                · refine lv_aload_n hx hb dX2_word_47 rfl (lv_at hl 0 rfl) ?_
                  refine z_get C hP 0 rfl rfl in_X2 0 (by decide) q250 rfl dX2_word_48 ?_
                  refine lv_iload_n hx hb dX2_word_51 rfl (lv_at hl 3 rfl) ?_
                  refine z_aaldW C hP 1 8 rfl rfl (j) rfl (by omega) (by first | decide | omega) dX2_word_52 ?_
                  rw [hw j (by omega)]
                  have hl1_9 := (hfb.1 (by simpa using c_44)).1
                  have hl6_9 := zLen_le (j + 1) (by omega)
                  refine lv_iload hx hb dX2_word_53 (lv_at hl 5 rfl) ?_
                  refine lv_iload_n hx hb dX2_word_55 rfl (lv_at hl 1 rfl) ?_
                  refine z_isubN C (k) (x) rfl rfl (by omega) dX2_word_56 ?_
                  refine z_nV (n := 1) (As := [.int (zI (((k - x) : Nat) : Int))]) (rest := []) C hV (k_J7_charAt l D dA en ((j + 1)) ((k - x)) (by first | with_reducible assumption | omega | with_reducible rfl) (by first | with_reducible assumption | omega | with_reducible rfl)) (lw_V q632 q633 q634 q125 q635) (by decide +kernel) rfl ⟨Nat.le_of_ble_eq_true rfl, Nat.le_of_ble_eq_true rfl⟩ hl.1 (hP.sub [] rfl) (vk_recv (H := ss.heap) (locs := []) (i := j + 1) hV.1.2.2.2.2.2.2.2.1 (by omega) va_S.rf) rfl (Nat.le_of_ble_eq_true rfl) dX2_word_57 (Nat.zero_le _) (Nat.zero_le _) ?_
                  have hz7_9 := (zch_ok (j + 1) (by omega) (k - x) (by omega)).2
                  have ht9_9 := btf k
                  refine lv_aload_n hx hb dX2_word_60 rfl (lv_at hl 0 rfl) ?_
                  refine z_get C hP 0 rfl rfl in_X2 1 (by decide) q251 rfl dX2_word_61 ?_
                  refine lv_iload hx hb dX2_word_64 (lv_at hl 5 rfl) ?_
                  refine z_bald C hP 2 rfl (k) rfl (by omega) (by decide) dX2_word_66 ?_
                  refine z_icmp_ne (tgt := 74) C ⟨by omega, by omega⟩ ⟨by omega, by omega⟩ dX2_word_67 (by decide) (fun c_67 => ?_) (fun c_67 => ?_)
                  · refine z_iconst C dX2_word_74 ?_
                    refine lv_istore (lv' := [(4, .int (zI 0)), (0, .ref (a)), (1, .int (zI ((x : Nat) : Int))), (2, .int (zI ((y : Nat) : Int))), (3, .int (zI ((j : Nat) : Int))), (5, .int (zI ((k : Nat) : Int)))]) hx hb dX2_word_75 hl (by decide) rfl (fun ls hl => ?_)
                    refine lv_iinc (v := zI ((k + 1 : Nat) : Int)) (lv' := [(5, .int (zI ((k + 1 : Nat) : Int))), (4, .int (zI 0)), (0, .ref (a)), (1, .int (zI ((x : Nat) : Int))), (2, .int (zI ((y : Nat) : Int))), (3, .int (zI ((j : Nat) : Int)))]) hx hb dX2_word_77 hl (k := 5) rfl (zI_inc (by omega)) (by decide) rfl (fun ls hl => ?_)
                    refine lv_goto (tgt := 36) hx hb dX2_word_80 (by decide) ?_
                    exact ih36 (k + 1) (false) (by first | with_reducible assumption | omega | with_reducible rfl) (by rw [wd_s hk.1 (hfb.1 (by simpa using c_44))]; first | (exact ⟨fun _ => by omega, fun _ => rfl⟩) | (exact ⟨fun h9 => (by cases h9), fun h9 => absurd h9 (by omega)⟩)) (by omega) ls (lv_sub hl [2, 3, 4, 5, 1, 0] rfl)
                  · refine z_iconst C dX2_word_70 ?_
                    refine lv_goto (tgt := 75) hx hb dX2_word_71 (by decide) ?_
                    refine lv_istore (lv' := [(4, .int (zI 1)), (0, .ref (a)), (1, .int (zI ((x : Nat) : Int))), (2, .int (zI ((y : Nat) : Int))), (3, .int (zI ((j : Nat) : Int))), (5, .int (zI ((k : Nat) : Int)))]) hx hb dX2_word_75 hl (by decide) rfl (fun ls hl => ?_)
                    refine lv_iinc (v := zI ((k + 1 : Nat) : Int)) (lv' := [(5, .int (zI ((k + 1 : Nat) : Int))), (4, .int (zI 1)), (0, .ref (a)), (1, .int (zI ((x : Nat) : Int))), (2, .int (zI ((y : Nat) : Int))), (3, .int (zI ((j : Nat) : Int)))]) hx hb dX2_word_77 hl (k := 5) rfl (zI_inc (by omega)) (by decide) rfl (fun ls hl => ?_)
                    refine lv_goto (tgt := 36) hx hb dX2_word_80 (by decide) ?_
                    exact ih36 (k + 1) (true) (by first | with_reducible assumption | omega | with_reducible rfl) (by rw [wd_s hk.1 (hfb.1 (by simpa using c_44))]; first | (exact ⟨fun _ => by omega, fun _ => rfl⟩) | (exact ⟨fun h9 => (by cases h9), fun h9 => absurd h9 (by omega)⟩)) (by omega) ls (lv_sub hl [2, 3, 4, 5, 1, 0] rfl)
          exact L36 ((y - x) + 1) (x) (false) (by first | with_reducible assumption | omega | with_reducible rfl) (by rw [wd_0]; first | (exact ⟨fun _ => by omega, fun _ => rfl⟩) | (exact ⟨fun h9 => (by cases h9), fun h9 => absurd h9 (by omega)⟩)) (by omega) ls (lv_sub hl [2, 3, 4, 5, 1, 0] rfl)
        · refine z_iconst C dX2_word_26 ?_
          refine lv_goto (tgt := 31) hx hb dX2_word_27 (by decide) ?_
          refine lv_istore (lv' := [(4, .int (zI 1)), (0, .ref (a)), (1, .int (zI ((x : Nat) : Int))), (2, .int (zI ((y : Nat) : Int))), (3, .int (zI ((j : Nat) : Int)))]) hx hb dX2_word_31 hl (by decide) rfl (fun ls hl => ?_)
          refine lv_iload_n hx hb dX2_word_33 rfl (lv_at hl 2 rfl) ?_
          refine lv_istore (lv' := [(5, .int (zI ((x : Nat) : Int))), (4, .int (zI 1)), (0, .ref (a)), (1, .int (zI ((x : Nat) : Int))), (2, .int (zI ((y : Nat) : Int))), (3, .int (zI ((j : Nat) : Int)))]) hx hb dX2_word_34 hl (by decide) rfl (fun ls hl => ?_)
          have L36 : ∀ (N : Nat) (k : Nat) (fb : Bool), (x ≤ k ∧ k ≤ y) → (fb = true ↔ wdP tf x y j k) → (y - k) < N → ∀ ls : Array Slot, lv_has ls 6 [(0, .ref (a)), (1, .int (zI ((x : Nat) : Int))), (2, .int (zI ((y : Nat) : Int))), (3, .int (zI ((j : Nat) : Int))), (4, .int (zB (fb))), (5, .int (zI ((k : Nat) : Int)))] → W pp l ee (zRm 4 85) ss mm args below meth cd ss.heap [] 0 0 Q (F0 mm 36 ls []) := by
            intro N
            induction N with
            | zero => intro k fb _ _ hm; exact absurd hm (Nat.not_lt_zero _)
            | succ N ih36 =>
              intro k fb hk hfb hmz36 ls hl
              refine lv_iload hx hb dX2_word_36 (lv_at hl 5 rfl) ?_
              refine lv_iload_n hx hb dX2_word_38 rfl (lv_at hl 2 rfl) ?_
              refine z_icmp_ge (tgt := 83) C ⟨by omega, by omega⟩ ⟨by omega, by omega⟩ dX2_word_39 (by decide) (fun c_39 => ?_) (fun c_39 => ?_)
              · refine lv_iload hx hb dX2_word_83 (lv_at hl 4 rfl) ?_
                refine z_if_eqB (tgt := 90) C dX2_word_85 (by decide) (fun c_85 => ?_) (fun c_85 => ?_)
                · refine lv_iinc (v := zI ((j + 1 : Nat) : Int)) (lv' := [(3, .int (zI ((j + 1 : Nat) : Int))), (0, .ref (a)), (1, .int (zI ((x : Nat) : Int))), (2, .int (zI ((y : Nat) : Int))), (4, .int (zB (fb))), (5, .int (zI ((k : Nat) : Int)))]) hx hb dX2_word_90 hl (k := 3) rfl (zI_inc (by omega)) (by decide) rfl (fun ls hl => ?_)
                  refine lv_goto (tgt := 2) hx hb dX2_word_93 (by decide) ?_
                  exact ih2 (j + 1) (by first | with_reducible assumption | omega | with_reducible rfl) (wd_next hno (fun h9 => absurd (hfb.2 (wd_mono hk.2 h9)) (by simp_all))) (by omega) ls (lv_sub hl [1, 2, 3, 0] rfl)
                · refine lv_iload_n hx hb dX2_word_88 rfl (lv_at hl 3 rfl) ?_
                  exact z_iret C hlk hr hQ (by first | (exact absurd (c_85.symm.trans c_44) (by simp)) | (exact (he.1 j (by omega) (wd_end (by omega) (hfb.1 c_85)) hno).symm)) dX2_word_89
              · refine lv_iload hx hb dX2_word_42 (lv_at hl 4 rfl) ?_
                refine z_if_eqB (tgt := 83) C dX2_word_44 (by decide) (fun c_44 => ?_) (fun c_44 => ?_)
                · refine lv_iload hx hb dX2_word_83 (lv_at hl 4 rfl) ?_
                  refine z_if_eqB (tgt := 90) C dX2_word_85 (by decide) (fun c_85 => ?_) (fun c_85 => ?_)
                  · refine lv_iinc (v := zI ((j + 1 : Nat) : Int)) (lv' := [(3, .int (zI ((j + 1 : Nat) : Int))), (0, .ref (a)), (1, .int (zI ((x : Nat) : Int))), (2, .int (zI ((y : Nat) : Int))), (4, .int (zB (fb))), (5, .int (zI ((k : Nat) : Int)))]) hx hb dX2_word_90 hl (k := 3) rfl (zI_inc (by omega)) (by decide) rfl (fun ls hl => ?_)
                    refine lv_goto (tgt := 2) hx hb dX2_word_93 (by decide) ?_
                    exact ih2 (j + 1) (by first | with_reducible assumption | omega | with_reducible rfl) (wd_next hno (fun h9 => absurd (hfb.2 (wd_mono hk.2 h9)) (by simp_all))) (by omega) ls (lv_sub hl [1, 2, 3, 0] rfl)
                  · refine lv_iload_n hx hb dX2_word_88 rfl (lv_at hl 3 rfl) ?_
                    exact z_iret C hlk hr hQ (by first | (exact absurd (c_85.symm.trans c_44) (by simp)) | (exact (he.1 j (by omega) (wd_end (by omega) (hfb.1 c_85)) hno).symm)) dX2_word_89
                · refine lv_aload_n hx hb dX2_word_47 rfl (lv_at hl 0 rfl) ?_
                  refine z_get C hP 0 rfl rfl in_X2 0 (by decide) q250 rfl dX2_word_48 ?_
                  refine lv_iload_n hx hb dX2_word_51 rfl (lv_at hl 3 rfl) ?_
                  refine z_aaldW C hP 1 8 rfl rfl (j) rfl (by omega) (by first | decide | omega) dX2_word_52 ?_
                  rw [hw j (by omega)]
                  have hl1_9 := (hfb.1 (by simpa using c_44)).1
                  have hl6_9 := zLen_le (j + 1) (by omega)
                  refine lv_iload hx hb dX2_word_53 (lv_at hl 5 rfl) ?_
                  refine lv_iload_n hx hb dX2_word_55 rfl (lv_at hl 1 rfl) ?_
                  refine z_isubN C (k) (x) rfl rfl (by omega) dX2_word_56 ?_
                  refine z_nV (n := 1) (As := [.int (zI (((k - x) : Nat) : Int))]) (rest := []) C hV (k_J7_charAt l D dA en ((j + 1)) ((k - x)) (by first | with_reducible assumption | omega | with_reducible rfl) (by first | with_reducible assumption | omega | with_reducible rfl)) (lw_V q632 q633 q634 q125 q635) (by decide +kernel) rfl ⟨Nat.le_of_ble_eq_true rfl, Nat.le_of_ble_eq_true rfl⟩ hl.1 (hP.sub [] rfl) (vk_recv (H := ss.heap) (locs := []) (i := j + 1) hV.1.2.2.2.2.2.2.2.1 (by omega) va_S.rf) rfl (Nat.le_of_ble_eq_true rfl) dX2_word_57 (Nat.zero_le _) (Nat.zero_le _) ?_
                  have hz7_9 := (zch_ok (j + 1) (by omega) (k - x) (by omega)).2
                  have ht9_9 := btf k
                  refine lv_aload_n hx hb dX2_word_60 rfl (lv_at hl 0 rfl) ?_
                  refine z_get C hP 0 rfl rfl in_X2 1 (by decide) q251 rfl dX2_word_61 ?_
                  refine lv_iload hx hb dX2_word_64 (lv_at hl 5 rfl) ?_
                  refine z_bald C hP 2 rfl (k) rfl (by omega) (by decide) dX2_word_66 ?_
                  refine z_icmp_ne (tgt := 74) C ⟨by omega, by omega⟩ ⟨by omega, by omega⟩ dX2_word_67 (by decide) (fun c_67 => ?_) (fun c_67 => ?_)
                  · refine z_iconst C dX2_word_74 ?_
                    refine lv_istore (lv' := [(4, .int (zI 0)), (0, .ref (a)), (1, .int (zI ((x : Nat) : Int))), (2, .int (zI ((y : Nat) : Int))), (3, .int (zI ((j : Nat) : Int))), (5, .int (zI ((k : Nat) : Int)))]) hx hb dX2_word_75 hl (by decide) rfl (fun ls hl => ?_)
                    refine lv_iinc (v := zI ((k + 1 : Nat) : Int)) (lv' := [(5, .int (zI ((k + 1 : Nat) : Int))), (4, .int (zI 0)), (0, .ref (a)), (1, .int (zI ((x : Nat) : Int))), (2, .int (zI ((y : Nat) : Int))), (3, .int (zI ((j : Nat) : Int)))]) hx hb dX2_word_77 hl (k := 5) rfl (zI_inc (by omega)) (by decide) rfl (fun ls hl => ?_)
                    refine lv_goto (tgt := 36) hx hb dX2_word_80 (by decide) ?_
                    exact ih36 (k + 1) (false) (by first | with_reducible assumption | omega | with_reducible rfl) (by rw [wd_s hk.1 (hfb.1 (by simpa using c_44))]; first | (exact ⟨fun _ => by omega, fun _ => rfl⟩) | (exact ⟨fun h9 => (by cases h9), fun h9 => absurd h9 (by omega)⟩)) (by omega) ls (lv_sub hl [2, 3, 4, 5, 1, 0] rfl)
                  · refine z_iconst C dX2_word_70 ?_
                    refine lv_goto (tgt := 75) hx hb dX2_word_71 (by decide) ?_
                    refine lv_istore (lv' := [(4, .int (zI 1)), (0, .ref (a)), (1, .int (zI ((x : Nat) : Int))), (2, .int (zI ((y : Nat) : Int))), (3, .int (zI ((j : Nat) : Int))), (5, .int (zI ((k : Nat) : Int)))]) hx hb dX2_word_75 hl (by decide) rfl (fun ls hl => ?_)
                    refine lv_iinc (v := zI ((k + 1 : Nat) : Int)) (lv' := [(5, .int (zI ((k + 1 : Nat) : Int))), (4, .int (zI 1)), (0, .ref (a)), (1, .int (zI ((x : Nat) : Int))), (2, .int (zI ((y : Nat) : Int))), (3, .int (zI ((j : Nat) : Int)))]) hx hb dX2_word_77 hl (k := 5) rfl (zI_inc (by omega)) (by decide) rfl (fun ls hl => ?_)
                    refine lv_goto (tgt := 36) hx hb dX2_word_80 (by decide) ?_
                    exact ih36 (k + 1) (true) (by first | with_reducible assumption | omega | with_reducible rfl) (by rw [wd_s hk.1 (hfb.1 (by simpa using c_44))]; first | (exact ⟨fun _ => by omega, fun _ => rfl⟩) | (exact ⟨fun h9 => (by cases h9), fun h9 => absurd h9 (by omega)⟩)) (by omega) ls (lv_sub hl [2, 3, 4, 5, 1, 0] rfl)
          exact L36 ((y - x) + 1) (x) (true) (by first | with_reducible assumption | omega | with_reducible rfl) (by rw [wd_0]; first | (exact ⟨fun _ => by omega, fun _ => rfl⟩) | (exact ⟨fun h9 => (by cases h9), fun h9 => absurd h9 (by omega)⟩)) (by omega) ls (lv_sub hl [2, 3, 4, 5, 1, 0] rfl)
  exact L2 ((11 - 0) + 1) (0) (by first | with_reducible assumption | omega | with_reducible rfl) (fun i hi => by omega) (by omega) ls (lv_sub hl [1, 2, 3, 0] rfl)
