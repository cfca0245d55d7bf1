/-! ArrayDeque grows (printed by tools/s_dqg.py) -/
set_option maxHeartbeats 600000 in
set_option maxRecDepth 100000 in
theorem k_J6_grow (l : Launch) (D : va_G) (dA : Nat → ClassId) (B : Nat) (en : Nat → Nat → Nat) (a e k hd : Nat) (f : Nat → Option Nat) (an : List (Nat × String)) (Cn : String) (hk2 : 2 ≤ k) (hk : k ≤ 40000) (hh : hd < k) (hne : f hd ≠ none) (hel : ∀ i y, i < k → f i = some y → (y, Cn) ∈ an) (hc : (Cn, "java/lang/Object") ∈ zCast) : zH (S := Nat × (Nat → Option Nat)) l yJ6_grow cJ6_grow 9 (none) (zRmW 3 70 1 (k + dqGr k)) B en ([], an) D dA [.ref (a), .int (zI 1)] [(a, .inr (15, [.ref (e), .int (zI ((hd : Nat) : Int)), .int (zI ((hd : Nat) : Int))])), (e, .inl (dA 7, k, .inr (.inr (.inr (.inr (f))))))] (fun u : Nat × (Nat → Option Nat) => none) (fun u : Nat × (Nat → Option Nat) => (∀ j, j < hd → u.2 j = f j) ∧ (∀ j, hd ≤ j → j < hd + dqGr k → u.2 j = none) ∧ ∀ j, hd + dqGr k ≤ j → j < k + dqGr k → u.2 j = f (j - dqGr k)) (fun u : Nat × (Nat → Option Nat) => [(a, .inr (15, [.ref (u.1), .int (zI ((hd + dqGr k : Nat) : Int)), .int (zI ((hd : Nat) : Int))])), (u.1, .inl (dA 7, k + dqGr k, .inr (.inr (.inr (.inr (u.2))))))]) := by
  refine zH.of (by decide +kernel) rfl ?_
  intro pp ee ss mm args below meth cd Q A C hr hlk hQ hA hV hin H locs hP hD hS ls hl
  have hx := C.1.1
  have hb := C.1.2.1
  have hl : lv_has ls 9 [(0, .ref (a)), (1, .int (zI 1))] := hl
  have hgr := dqGr_1 hk2
  refine lv_aload_n hx hb dJ6_grow_0 rfl (lv_at hl 0 rfl) ?_
  refine z_get C hP 0 rfl rfl in_J6 0 (by decide) q512 rfl dJ6_grow_1 ?_
  refine z_alen C hP 1 7 rfl rfl rfl dJ6_grow_4 ?_
  refine lv_istore_n (lv' := [(2, .int (zI ((k : Nat) : Int))), (0, .ref (a)), (1, .int (zI 1))]) hx hb dJ6_grow_5 rfl hl (by decide) rfl (fun ls hl => ?_)
  have J21 : ∀ (jp : Nat), (jp = dqGr k) → ∀ (H : Heap) (locs : List Loc), va_P D vwCl [(a, .inr (15, [.ref (e), .int (zI ((hd : Nat) : Int)), .int (zI ((hd : Nat) : Int))])), (e, .inl (dA 7, k, .inr (.inr (.inr (.inr (f))))))] H → va_D A [(a, .inr (15, [.ref (e), .int (zI ((hd : Nat) : Int)), .int (zI ((hd : Nat) : Int))])), (e, .inl (dA 7, k, .inr (.inr (.inr (.inr (f))))))] → va_S A ss.heap H locs → ∀ ls : Array Slot, lv_has ls 9 [(2, .int (zI ((k : Nat) : Int))), (0, .ref (a)), (1, .int (zI 1))] → W pp l ee (zRmW 3 70 1 (k + dqGr k)) ss mm args below meth cd H locs 0 0 Q (F0 mm 21 ls [.int (zI ((jp : Nat) : Int))]) := by
    intro jp hjp H locs hP hD hS ls hl
    refine lv_istore (lv' := [(4, .int (zI ((jp : Nat) : Int))), (2, .int (zI ((k : Nat) : Int))), (0, .ref (a)), (1, .int (zI 1))]) hx hb dJ6_grow_21 hl (by decide) rfl (fun ls hl => ?_)
    refine lv_iload hx hb dJ6_grow_23 (lv_at hl 0 rfl) ?_
    refine lv_iload_n hx hb dJ6_grow_25 rfl (lv_at hl 3 rfl) ?_
    refine z_icmp_lt (tgt := 41) C ⟨by omega, by omega⟩ ⟨by decide, by decide⟩ dJ6_grow_26 (by decide) (fun c_26 => ?_) (fun c_26 => ?_)
    · omega
    · refine lv_iload_n hx hb dJ6_grow_29 rfl (lv_at hl 1 rfl) ?_
      refine lv_iload hx hb dJ6_grow_30 (lv_at hl 0 rfl) ?_
      refine z_iaddN C (k) (jp) rfl rfl dJ6_grow_32 ?_
      refine lv_dup hx hb dJ6_grow_33 rfl ?_
      refine lv_istore_n (lv' := [(3, .int (zI (((k + jp) : Nat) : Int))), (4, .int (zI ((jp : Nat) : Int))), (2, .int (zI ((k : Nat) : Int))), (0, .ref (a)), (1, .int (zI 1))]) hx hb dJ6_grow_34 rfl hl (by decide) rfl (fun ls hl => ?_)
      refine z_ldc C (2147483639) q860 rfl dJ6_grow_35 ?_
      refine z_isub C dJ6_grow_37 ?_
      refine z_if_le (tgt := 49) C ⟨by omega, by omega⟩ dJ6_grow_38 (by decide) (fun c_38 => ?_) (fun c_38 => ?_)
      · subst hjp
        refine lv_aload_n hx hb dJ6_grow_49 rfl (lv_at hl 3 rfl) ?_
        refine lv_aload_n hx hb dJ6_grow_50 rfl (lv_at hl 3 rfl) ?_
        refine z_get C hP 0 rfl rfl in_J6 0 (by decide) q512 rfl dJ6_grow_51 ?_
        refine lv_iload_n hx hb dJ6_grow_54 rfl (lv_at hl 0 rfl) ?_
        refine z_hS (n := 2) (As := [.ref (e), .int (zI (((k + dqGr k) : Nat) : Int))]) (rest := [.ref (a)]) (wc := [(e, .inl (dA 7, k, .inr (.inr (.inr (.inr (f))))))]) (wr := [(a, .inr (15, [.ref (e), .int (zI ((hd : Nat) : Int)), .int (zI ((hd : Nat) : Int))]))]) C hV hP hD hS hA [1] [0] rfl rfl (by decide) (by decide) (by decide) (k_J11_copyOf l D dA B en (e) (k) ((k + dqGr k)) (f) (an) (Cn) (by first | with_reducible assumption | omega | with_reducible rfl) (by first | with_reducible assumption | omega | with_reducible rfl) (by first | with_reducible assumption | omega | with_reducible rfl) (by first | with_reducible assumption | omega | with_reducible rfl)) ((hV.fz hS).narrow (va_free hD hS hA [1] rfl)) (lw_S q866 q867 q130 q868) (by decide +kernel) rfl ⟨Nat.le_of_ble_eq_true rfl, Nat.le_of_ble_eq_true rfl⟩ hl.1 rfl (Nat.le_of_ble_eq_true rfl) dJ6_grow_55 (by dsimp only; omega) (by dsimp only; omega) (fun u_55 H locs hp_55 hP hD hS _ => ?_)
        obtain ⟨q9_1, rfl⟩ : ∃ z, z = u_55 := ⟨_, rfl⟩
        have hP := hP.sub (ws' := [(a, .inr (15, [.ref (e), .int (zI ((hd : Nat) : Int)), .int (zI ((hd : Nat) : Int))])), (e, .inl (dA 7, k, .inr (.inr (.inr (.inr (f)))))), (q9_1, .inl (dA 7, ((k + dqGr k)), .inr (.inr (.inr (.inr ((va_cpy f (fun _ => none) 0 0 k)))))))]) [0, 1, 2] rfl
        have hD := hD.sub (ws' := [(a, .inr (15, [.ref (e), .int (zI ((hd : Nat) : Int)), .int (zI ((hd : Nat) : Int))])), (e, .inl (dA 7, k, .inr (.inr (.inr (.inr (f)))))), (q9_1, .inl (dA 7, ((k + dqGr k)), .inr (.inr (.inr (.inr ((va_cpy f (fun _ => none) 0 0 k)))))))]) [0, 1, 2] (by decide) rfl
        refine W.widen (k := 1) (n := 0 + ((k + dqGr k))) (by dsimp only; omega) (by dsimp only; omega) ?_
        refine lv_dup_x1 hx hb dJ6_grow_58 rfl rfl ?_
        refine z_put C hP hD hS 0 rfl rfl in_J6 tyJ6_ok nmJ6 0 (by decide) q512 rfl (v := .ref (q9_1)) rfl rfl (Nat.le_of_ble_eq_true rfl) (ws' := [(a, .inr (15, [.ref (q9_1), .int (zI ((hd : Nat) : Int)), .int (zI ((hd : Nat) : Int))])), (e, .inl (dA 7, k, .inr (.inr (.inr (.inr (f)))))), (q9_1, .inl (dA 7, ((k + dqGr k)), .inr (.inr (.inr (.inr ((va_cpy f (fun _ => none) 0 0 k)))))))]) rfl dJ6_grow_59 (fun H locs hP hD hS => ?_)
        refine lv_astore (lv' := [(5, .ref (q9_1)), (3, .int (zI (((k + dqGr k) : Nat) : Int))), (4, .int (zI ((dqGr k : Nat) : Int))), (2, .int (zI ((k : Nat) : Int))), (0, .ref (a)), (1, .int (zI 1))]) hx hb dJ6_grow_62 hl (by decide) rfl (fun ls hl => ?_)
        refine lv_aload_n hx hb dJ6_grow_64 rfl (lv_at hl 4 rfl) ?_
        refine z_get C hP 0 rfl rfl in_J6 2 (by decide) q514 rfl dJ6_grow_65 ?_
        refine lv_aload_n hx hb dJ6_grow_68 rfl (lv_at hl 4 rfl) ?_
        refine z_get C hP 0 rfl rfl in_J6 1 (by decide) q513 rfl dJ6_grow_69 ?_
        refine z_icmp_lt (tgt := 96) C ⟨by omega, by omega⟩ ⟨by omega, by omega⟩ dJ6_grow_72 (by decide) (fun c_72 => ?_) (fun c_72 => ?_)
        · omega
        · refine lv_aload_n hx hb dJ6_grow_75 rfl (lv_at hl 4 rfl) ?_
          refine z_get C hP 0 rfl rfl in_J6 2 (by decide) q514 rfl dJ6_grow_76 ?_
          refine lv_aload_n hx hb dJ6_grow_79 rfl (lv_at hl 4 rfl) ?_
          refine z_get C hP 0 rfl rfl in_J6 1 (by decide) q513 rfl dJ6_grow_80 ?_
          refine z_icmp_ne (tgt := 164) C ⟨by omega, by omega⟩ ⟨by omega, by omega⟩ dJ6_grow_83 (by decide) (fun c_83 => ?_) (fun c_83 => ?_)
          · omega
          · refine lv_aload hx hb dJ6_grow_86 (lv_at hl 0 rfl) ?_
            refine lv_aload_n hx hb dJ6_grow_88 rfl (lv_at hl 4 rfl) ?_
            refine z_get C hP 0 rfl rfl in_J6 1 (by decide) q513 rfl dJ6_grow_89 ?_
            refine z_aaldW C hP 2 7 rfl rfl (hd) rfl (by omega) (by first | decide | omega) dJ6_grow_92 ?_
            refine z_ifnull (tgt := 164) C dJ6_grow_93 (by decide) (fun c_93 => ?_) (fun c_93 => ?_)
            · exact absurd c_93 (by rw [pk_cpy_in (by omega) (by omega)]; simpa using hne)
            · refine lv_iload_n hx hb dJ6_grow_96 rfl (lv_at hl 1 rfl) ?_
              refine lv_iload_n hx hb dJ6_grow_97 rfl (lv_at hl 3 rfl) ?_
              refine z_isubN C ((k + dqGr k)) (k) rfl rfl (by omega) dJ6_grow_98 ?_
              refine z_nmN (fun ns_2 e_ns_2 => ?_)
              refine lv_istore (lv' := [(6, .int (zI ((ns_2 : Nat) : Int))), (5, .ref (q9_1)), (3, .int (zI (((k + dqGr k) : Nat) : Int))), (4, .int (zI ((dqGr k : Nat) : Int))), (2, .int (zI ((k : Nat) : Int))), (0, .ref (a)), (1, .int (zI 1))]) hx hb dJ6_grow_99 hl (by decide) rfl (fun ls hl => ?_)
              obtain rfl : ns_2 = dqGr k := by omega
              refine lv_aload hx hb dJ6_grow_101 (lv_at hl 1 rfl) ?_
              refine lv_aload_n hx hb dJ6_grow_103 rfl (lv_at hl 5 rfl) ?_
              refine z_get C hP 0 rfl rfl in_J6 1 (by decide) q513 rfl dJ6_grow_104 ?_
              refine lv_aload hx hb dJ6_grow_107 (lv_at hl 1 rfl) ?_
              refine lv_aload_n hx hb dJ6_grow_109 rfl (lv_at hl 5 rfl) ?_
              refine z_get C hP 0 rfl rfl in_J6 1 (by decide) q513 rfl dJ6_grow_110 ?_
              refine lv_iload hx hb dJ6_grow_113 (lv_at hl 0 rfl) ?_
              refine z_iaddN C (hd) (dqGr k) rfl rfl dJ6_grow_115 ?_
              refine lv_iload_n hx hb dJ6_grow_116 rfl (lv_at hl 4 rfl) ?_
              refine lv_aload_n hx hb dJ6_grow_117 rfl (lv_at hl 5 rfl) ?_
              refine z_get C hP 0 rfl rfl in_J6 1 (by decide) q513 rfl dJ6_grow_118 ?_
              refine z_isub C dJ6_grow_121 ?_
              refine z_acopyO C hP hD hS 2 2 rfl rfl (hd) (hd + dqGr k) (k - hd) rfl (by omega) (by omega) (by omega) (by omega) ⟨by omega, by omega⟩ (Cn := Cn) (fun i hi y hy => (hV.fz hS).cell (hel (hd + i) y (by omega) (by rw [pk_cpy_in (by omega) (by omega)] at hy; simpa using hy))) hc q903 hl.1 (Nat.le_of_ble_eq_true rfl) (Nat.le_of_ble_eq_true rfl) (ws' := [(a, .inr (15, [.ref (q9_1), .int (zI ((hd : Nat) : Int)), .int (zI ((hd : Nat) : Int))])), (e, .inl (dA 7, k, .inr (.inr (.inr (.inr (f)))))), (q9_1, .inl (dA 7, ((k + dqGr k)), .inr (.inr (.inr (.inr ((va_cpy (va_cpy f (fun _ => none) 0 0 k) (va_cpy f (fun _ => none) 0 0 k) hd (hd + dqGr k) (k - hd))))))))]) rfl dJ6_grow_122 (fun H locs hP hD hS => ?_)
              refine lv_aload_n hx hb dJ6_grow_125 rfl (lv_at hl 5 rfl) ?_
              refine z_get C hP 0 rfl rfl in_J6 1 (by decide) q513 rfl dJ6_grow_126 ?_
              refine lv_istore (lv' := [(7, .int (zI ((hd : Nat) : Int))), (6, .int (zI ((dqGr k : Nat) : Int))), (5, .ref (q9_1)), (3, .int (zI (((k + dqGr k) : Nat) : Int))), (4, .int (zI ((dqGr k : Nat) : Int))), (2, .int (zI ((k : Nat) : Int))), (0, .ref (a)), (1, .int (zI 1))]) hx hb dJ6_grow_129 hl (by decide) rfl (fun ls hl => ?_)
              refine lv_aload_n hx hb dJ6_grow_131 rfl (lv_at hl 6 rfl) ?_
              refine lv_dup hx hb dJ6_grow_132 rfl ?_
              refine z_get C hP 0 rfl rfl in_J6 1 (by decide) q513 rfl dJ6_grow_133 ?_
              refine lv_iload hx hb dJ6_grow_136 (lv_at hl 1 rfl) ?_
              refine z_iaddN C (hd) (dqGr k) rfl rfl dJ6_grow_138 ?_
              refine lv_dup_x1 hx hb dJ6_grow_139 rfl rfl ?_
              refine z_put C hP hD hS 0 rfl rfl in_J6 tyJ6_ok nmJ6 1 (by decide) q513 rfl (v := .int (zI (((hd + dqGr k) : Nat) : Int))) rfl rfl (Nat.le_of_ble_eq_true rfl) (ws' := [(a, .inr (15, [.ref (q9_1), .int (zI (((hd + dqGr k) : Nat) : Int)), .int (zI ((hd : Nat) : Int))])), (e, .inl (dA 7, k, .inr (.inr (.inr (.inr (f)))))), (q9_1, .inl (dA 7, ((k + dqGr k)), .inr (.inr (.inr (.inr ((va_cpy (va_cpy f (fun _ => none) 0 0 k) (va_cpy f (fun _ => none) 0 0 k) hd (hd + dqGr k) (k - hd))))))))]) rfl dJ6_grow_140 (fun H locs hP hD hS => ?_)
              refine lv_istore (lv' := [(8, .int (zI (((hd + dqGr k) : Nat) : Int))), (7, .int (zI ((hd : Nat) : Int))), (6, .int (zI ((dqGr k : Nat) : Int))), (5, .ref (q9_1)), (3, .int (zI (((k + dqGr k) : Nat) : Int))), (4, .int (zI ((dqGr k : Nat) : Int))), (2, .int (zI ((k : Nat) : Int))), (0, .ref (a)), (1, .int (zI 1))]) hx hb dJ6_grow_143 hl (by decide) rfl (fun ls hl => ?_)
              have L145 : ∀ (N : Nat) (i : Nat) (g : Nat → Option Nat), (hd ≤ i ∧ i ≤ hd + dqGr k) → (∀ j, j < hd → g j = f j) → (∀ j, hd ≤ j → j < i → g j = none) → (∀ j, hd + dqGr k ≤ j → j < k + dqGr k → g j = f (j - dqGr k)) → (hd + dqGr k - i) < N → ∀ (H : Heap) (locs : List Loc), va_P D vwCl [(a, .inr (15, [.ref (q9_1), .int (zI (((hd + dqGr k) : Nat) : Int)), .int (zI ((hd : Nat) : Int))])), (e, .inl (dA 7, k, .inr (.inr (.inr (.inr (f)))))), (q9_1, .inl (dA 7, k + dqGr k, .inr (.inr (.inr (.inr (g))))))] H → va_D A [(a, .inr (15, [.ref (q9_1), .int (zI (((hd + dqGr k) : Nat) : Int)), .int (zI ((hd : Nat) : Int))])), (e, .inl (dA 7, k, .inr (.inr (.inr (.inr (f)))))), (q9_1, .inl (dA 7, k + dqGr k, .inr (.inr (.inr (.inr (g))))))] → va_S A ss.heap H locs → ∀ ls : Array Slot, lv_has ls 9 [(5, .ref (q9_1)), (7, .int (zI ((i : Nat) : Int))), (8, .int (zI (((hd + dqGr k) : Nat) : Int)))] → W pp l ee (zRmW 3 70 1 (k + dqGr k)) ss mm args below meth cd H locs 1 (0 + ((k + dqGr k))) Q (F0 mm 145 ls []) := by
                intro N
                induction N with
                | zero => intro i g _ _ _ _ hm; exact absurd hm (Nat.not_lt_zero _)
                | succ N ih145 =>
                  intro i g hi1 hg1 hg2 hg3 hmz145 H locs hP hD hS ls hl
                  refine lv_iload hx hb dJ6_grow_145 (lv_at hl 1 rfl) ?_
                  refine lv_iload hx hb dJ6_grow_147 (lv_at hl 2 rfl) ?_
                  refine z_icmp_ge (tgt := 164) C ⟨by omega, by omega⟩ ⟨by omega, by omega⟩ dJ6_grow_149 (by decide) (fun c_149 => ?_) (fun c_149 => ?_)
                  · exact z_vretG C hlk hr hQ ⟨q9_1, g⟩ rfl ⟨hg1, (fun j a1 a2 => hg2 j a1 (by omega)), hg3⟩ (hP.sub [0, 2] rfl) (hD.sub [0, 2] (by decide) rfl) hS (by dsimp only; omega) (by dsimp only; omega) dJ6_grow_164
                  · refine lv_aload hx hb dJ6_grow_152 (lv_at hl 0 rfl) ?_
                    refine lv_iload hx hb dJ6_grow_154 (lv_at hl 1 rfl) ?_
                    refine lv_null C.1.1 C.1.2.1 dJ6_grow_156 ?_
                    refine z_aastN C hP hD hS 2 7 rfl rfl (i) rfl (by omega) (by first | decide | omega) (ws' := [(a, .inr (15, [.ref (q9_1), .int (zI (((hd + dqGr k) : Nat) : Int)), .int (zI ((hd : Nat) : Int))])), (e, .inl (dA 7, k, .inr (.inr (.inr (.inr (f)))))), (q9_1, .inl (dA 7, k + dqGr k, .inr (.inr (.inr (.inr ((va_up g i none)))))))]) rfl dJ6_grow_157 (fun H locs hP hD hS => ?_)
                    refine lv_iinc (v := zI ((i + 1 : Nat) : Int)) (lv' := [(7, .int (zI ((i + 1 : Nat) : Int))), (5, .ref (q9_1)), (8, .int (zI (((hd + dqGr k) : Nat) : Int)))]) hx hb dJ6_grow_158 hl (k := 1) rfl (zI_inc (by omega)) (by decide) rfl (fun ls hl => ?_)
                    refine lv_goto (tgt := 145) hx hb dJ6_grow_161 (by decide) ?_
                    exact ih145 (i + 1) ((va_up g i none)) ⟨by omega, by omega⟩ (dq_g2 hi1.1 hg1) (dq_g1 hg2) (dq_g3 (by omega) hg3) (by omega) H locs hP hD hS ls (lv_sub hl [1, 0, 2] rfl)
              exact L145 ((hd + dqGr k - hd) + 1) (hd) (va_cpy (va_cpy f (fun _ => none) 0 0 k) (va_cpy f (fun _ => none) 0 0 k) hd (hd + dqGr k) (k - hd)) ⟨by omega, by omega⟩ (dq_g0 hh).1 (fun j a1 a2 => by omega) (dq_g0 hh).2 (by omega) H locs hP hD hS ls (lv_sub hl [3, 1, 0] rfl)
      · omega
  refine lv_iload_n hx hb dJ6_grow_6 rfl (lv_at hl 0 rfl) ?_
  refine z_bipush C dJ6_grow_7 rfl ?_
  refine z_icmp_ge (tgt := 18) C ⟨by omega, by omega⟩ ⟨by decide, by decide⟩ dJ6_grow_9 (by decide) (fun c_9 => ?_) (fun c_9 => ?_)
  · refine lv_iload_n hx hb dJ6_grow_18 rfl (lv_at hl 0 rfl) ?_
    refine z_iconst C dJ6_grow_19 ?_
    refine z_ishrN C (k) (1) rfl rfl (by omega) (by omega) dJ6_grow_20 ?_
    exact J21 ((k >>> 1)) (by unfold dqGr; first | (rw [if_pos (by omega)] <;> omega) | (rw [if_neg (by omega)]; exact Nat.shiftRight_one k) | (rw [if_neg (by omega)]; omega)) H locs hP hD hS ls (lv_sub hl [0, 1, 2] rfl)
  · refine lv_iload_n hx hb dJ6_grow_12 rfl (lv_at hl 0 rfl) ?_
    refine z_iconst C dJ6_grow_13 ?_
    refine z_iaddN C (k) (2) rfl rfl dJ6_grow_14 ?_
    refine lv_goto (tgt := 21) hx hb dJ6_grow_15 (by decide) ?_
    exact J21 ((k + 2)) (by unfold dqGr; first | (rw [if_pos (by omega)] <;> omega) | (rw [if_neg (by omega)]; exact Nat.shiftRight_one k) | (rw [if_neg (by omega)]; omega)) H locs hP hD hS ls (lv_sub hl [0, 1, 2] rfl)

set_option maxHeartbeats 600000 in
set_option maxRecDepth 100000 in
theorem k_J6_addLast_grow (l : Launch) (D : va_G) (dA : Nat → ClassId) (B : Nat) (en : Nat → Nat → Nat) (a e k hd tl x : Nat) (f : Nat → Option Nat) (xs : List Nat) (an : List (Nat × String)) (Cn : String) (hq : dqOk k hd tl f xs) (hk : k ≤ 40000) (hr9 : xs.length + 1 = k) (hx9 : (x, Cn) ∈ an) (hel : ∀ y, y ∈ xs → (y, Cn) ∈ an) (hc : (Cn, "java/lang/Object") ∈ zCast) : zH (S := Nat × (Nat → Option Nat)) l yJ6_addLast cJ6_addLast 3 (none) (zRmW 4 98 1 (k + dqGr k)) B en ([], an) D dA [.ref (a), .ref (x)] [(a, .inr (15, [.ref (e), .int (zI ((hd : Nat) : Int)), .int (zI ((tl : Nat) : Int))])), (e, .inl (dA 7, k, .inr (.inr (.inr (.inr (f))))))] (fun u : Nat × (Nat → Option Nat) => none) (fun u : Nat × (Nat → Option Nat) => dqOk (k + dqGr k) (hd + dqGr k) hd u.2 (xs ++ [x])) (fun u : Nat × (Nat → Option Nat) => [(a, .inr (15, [.ref (u.1), .int (zI ((hd + dqGr k : Nat) : Int)), .int (zI ((hd : Nat) : Int))])), (u.1, .inl (dA 7, k + dqGr k, .inr (.inr (.inr (.inr (u.2))))))]) := by
  refine zH.of (by decide +kernel) rfl ?_
  intro pp ee ss mm args below meth cd Q A C hr hlk hQ hA hV hin H locs hP hD hS ls hl
  have hx := C.1.1
  have hb := C.1.2.1
  have hl : lv_has ls 3 [(0, .ref (a)), (1, .ref (x))] := hl
  have hq0 := dq_tl hq
  have hq1 := hq.2.1
  have hq2 := hq.1
  have hq7 := dq_full (x := x) hq hr9
  have hgr := dqGr_1 hq2
  refine lv_aload_n hx hb dJ6_addLast_0 rfl (lv_at hl 1 rfl) ?_
  refine lv_ifnonnull (tgt := 12) hx hb dJ6_addLast_1 (by decide) ?_
  refine lv_aload_n hx hb dJ6_addLast_12 rfl (lv_at hl 0 rfl) ?_
  refine z_get C hP 0 rfl rfl in_J6 0 (by decide) q512 rfl dJ6_addLast_13 ?_
  refine lv_astore_n (lv' := [(2, .ref (e)), (0, .ref (a)), (1, .ref (x))]) hx hb dJ6_addLast_16 rfl hl (by decide) rfl (fun ls hl => ?_)
  refine lv_aload_n hx hb dJ6_addLast_17 rfl (lv_at hl 0 rfl) ?_
  refine lv_aload_n hx hb dJ6_addLast_18 rfl (lv_at hl 1 rfl) ?_
  refine z_get C hP 0 rfl rfl in_J6 2 (by decide) q514 rfl dJ6_addLast_19 ?_
  refine lv_aload_n hx hb dJ6_addLast_22 rfl (lv_at hl 2 rfl) ?_
  refine z_aastO C hP hD hS 1 7 rfl (Cn := Cn) rfl ((hV.fz hS).cell hx9) (Or.inl hc) (tl) rfl (by omega) (by first | decide | omega) (ws' := [(a, .inr (15, [.ref (e), .int (zI ((hd : Nat) : Int)), .int (zI ((tl : Nat) : Int))])), (e, .inl (dA 7, k, .inr (.inr (.inr (.inr ((va_up f tl (some x))))))))]) rfl dJ6_addLast_23 (fun H locs hP hD hS => ?_)
  refine lv_aload_n hx hb dJ6_addLast_24 rfl (lv_at hl 1 rfl) ?_
  refine z_get C hP 0 rfl rfl in_J6 1 (by decide) q513 rfl dJ6_addLast_25 ?_
  refine lv_aload_n hx hb dJ6_addLast_28 rfl (lv_at hl 1 rfl) ?_
  refine lv_aload_n hx hb dJ6_addLast_29 rfl (lv_at hl 1 rfl) ?_
  refine z_get C hP 0 rfl rfl in_J6 2 (by decide) q514 rfl dJ6_addLast_30 ?_
  refine lv_aload_n hx hb dJ6_addLast_33 rfl (lv_at hl 0 rfl) ?_
  refine z_alen C hP 1 7 rfl rfl rfl dJ6_addLast_34 ?_
  refine z_cS (n := 2) (As := [.int (zI ((tl : Nat) : Int)), .int (zI ((k : Nat) : Int))]) (rest := [.ref (a), .int (zI ((hd : Nat) : Int))]) C (k_J6_inc l D dA (tl) (k) (by first | with_reducible assumption | omega | with_reducible rfl) (by first | with_reducible assumption | omega | with_reducible rfl)) (lw_S q849 q850 q123 q851) (by decide +kernel) rfl ⟨Nat.le_of_ble_eq_true rfl, Nat.le_of_ble_eq_true rfl⟩ hl.1 (hP.sub [] rfl) rfl (Nat.le_of_ble_eq_true rfl) dJ6_addLast_35 (Nat.zero_le _) (Nat.zero_le _) ?_
  rw [hq7.1]
  refine lv_dup_x1 hx hb dJ6_addLast_38 rfl rfl ?_
  refine z_put C hP hD hS 0 rfl rfl in_J6 tyJ6_ok nmJ6 2 (by decide) q514 rfl (v := .int (zI ((hd : Nat) : Int))) rfl rfl (Nat.le_of_ble_eq_true rfl) (ws' := [(a, .inr (15, [.ref (e), .int (zI ((hd : Nat) : Int)), .int (zI ((hd : Nat) : Int))])), (e, .inl (dA 7, k, .inr (.inr (.inr (.inr ((va_up f tl (some x))))))))]) rfl dJ6_addLast_39 (fun H locs hP hD hS => ?_)
  refine z_icmp_ne (tgt := 50) C ⟨by omega, by omega⟩ ⟨by omega, by omega⟩ dJ6_addLast_42 (by decide) (fun c_42 => ?_) (fun c_42 => ?_)
  · exact absurd rfl c_42
  · refine lv_aload_n hx hb dJ6_addLast_45 rfl (lv_at hl 1 rfl) ?_
    refine z_iconst C dJ6_addLast_46 ?_
    refine z_hV (n := 1) (As := [.int (zI 1)]) (rest := []) (wc := [(a, .inr (15, [.ref (e), .int (zI ((hd : Nat) : Int)), .int (zI ((hd : Nat) : Int))])), (e, .inl (dA 7, k, .inr (.inr (.inr (.inr ((va_up f tl (some x))))))))]) (wr := []) C hV hP hD hS hA [0, 1] [] rfl rfl (by decide) (by decide) (by decide) (k_J6_grow l D dA B en (a) (e) (k) (hd) ((va_up f tl (some x))) (an) (Cn) (by first | with_reducible assumption | omega | with_reducible rfl) (by first | with_reducible assumption | omega | with_reducible rfl) (by first | with_reducible assumption | omega | with_reducible rfl) (by have := hq7.2 0 (by omega); rw [Nat.add_zero, Nat.mod_eq_of_lt hq1] at this; rw [this]; simp) (dq_el hq hx9 hel) (by first | with_reducible assumption | omega | with_reducible rfl)) ((hV.fz hS).narrow (va_free hD hS hA [0, 1] rfl)) (lw_V q856 q858 qs29 q123 q859) (by decide +kernel) rfl ⟨Nat.le_of_ble_eq_true rfl, Nat.le_of_ble_eq_true rfl⟩ hl.1 0 rfl rfl rfl (Nat.le_of_ble_eq_true rfl) dJ6_addLast_47 (by dsimp only; omega) (by dsimp only; omega) (fun u_47 H locs hp_47 hP hD hS _ => ?_)
    obtain ⟨q9_1, f1_2⟩ := u_47
    have hP := hP.sub (ws' := [(a, .inr (15, [.ref (q9_1), .int (zI ((hd + dqGr k : Nat) : Int)), .int (zI ((hd : Nat) : Int))])), (q9_1, .inl (dA 7, k + dqGr k, .inr (.inr (.inr (.inr (f1_2))))))]) [0, 1] rfl
    have hD := hD.sub (ws' := [(a, .inr (15, [.ref (q9_1), .int (zI ((hd + dqGr k : Nat) : Int)), .int (zI ((hd : Nat) : Int))])), (q9_1, .inl (dA 7, k + dqGr k, .inr (.inr (.inr (.inr (f1_2))))))]) [0, 1] (by decide) rfl
    have hp_47 : (∀ j, j < hd → f1_2 j = ((va_up f tl (some x))) j) ∧ (∀ j, hd ≤ j → j < hd + dqGr k → f1_2 j = none) ∧ ∀ j, hd + dqGr k ≤ j → j < k + dqGr k → f1_2 j = ((va_up f tl (some x))) (j - dqGr k) := hp_47
    refine W.widen (k := 1) (n := 0 + (k + dqGr k)) (by dsimp only; omega) (by dsimp only; omega) ?_
    exact z_vretG C hlk hr hQ ⟨q9_1, f1_2⟩ rfl (dq_grown hq2 hq1 hgr.1 (by simp; omega) hq7.2 hp_47.1 hp_47.2.1 hp_47.2.2) (hP.sub [0, 1] rfl) (hD.sub [0, 1] (by decide) rfl) hS (by dsimp only; omega) (by dsimp only; omega) dJ6_addLast_50
