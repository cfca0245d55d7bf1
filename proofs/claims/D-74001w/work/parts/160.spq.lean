/-! PriorityQueue of Spots (printed by tools/s_spq.py) -/
def spK (st : Nat → Nat) (hi : Nat → Int) (y : Nat) : Int := hi y * 65536 + (st y : Int)
theorem sp_sign {s1 s2 : Nat} {h1 h2 : Int} (g1 : s1 < 65536) (g2 : s2 < 65536) : ((if h1 = h2 then (s1 : Int) - (s2 : Int) else h1 - h2) < 0 ↔ h1 * 65536 + (s1 : Int) < h2 * 65536 + (s2 : Int)) ∧ (0 < (if h1 = h2 then (s1 : Int) - (s2 : Int) else h1 - h2) ↔ h2 * 65536 + (s2 : Int) < h1 * 65536 + (s1 : Int)) := by
  split <;> omega

set_option maxHeartbeats 600000 in
set_option maxRecDepth 100000 in
theorem k_J21_siftUpComparable (l : Launch) (D : va_G) (dA : Nat → ClassId) (B : Nat) (en : Nat → Nat → Nat) (k0 : Nat) (f0 : Nat → Option Nat) (e cap n x : Nat) (gg : Nat → Nat) (S9 : Nat → Prop) (LS : List Nat) (st : Nat → Nat) (hi : Nat → Int) (hcap : n ≤ cap ∧ cap ≤ 100000) (hV9 : ∀ y, S9 y → y ∈ LS ∧ st y < 65536 ∧ -100000 ≤ hi y ∧ hi y ≤ 100000) (hk : k0 < n) (gk : gg k0 = x) (hf : pqH f0 gg n k0) (hu : hpU (spK st hi) gg n k0) (hs9 : hpS gg n S9) : zH (S := (Nat → Option Nat) × (Nat → Nat)) l yJ21_siftUpComparable cJ21_siftUpComparable 6 (none) (zRmW 2 42 0 0) B en ([], []) D dA [.int (zI ((k0 : Nat) : Int)), .ref (x), .ref (e)] ([(e, .inl (dA 7, cap, .inr (.inr (.inr (.inr (f0))))))] ++ va_pl LS (spE st hi)) (fun u : (Nat → Option Nat) × (Nat → Nat) => none) (fun u : (Nat → Option Nat) × (Nat → Nat) => pqF u.1 u.2 n ∧ hpO (spK st hi) u.2 n ∧ hpS u.2 n S9 ∧ ∀ i, n ≤ i → u.1 i = f0 i) (fun u : (Nat → Option Nat) × (Nat → Nat) => ([(e, .inl (dA 7, cap, .inr (.inr (.inr (.inr (u.1))))))] ++ va_pl LS (spE st hi))) := by
  refine zH.of (by decide +kernel) rfl ?_
  intro pp ee ss mm args below meth cd Q A C hr hlk hQ hA hV hin H locs hP hD hS ls hl
  have hx := C.1.1
  have hb := C.1.2.1
  have hl : lv_has ls 6 [(0, .int (zI ((k0 : Nat) : Int))), (1, .ref (x)), (2, .ref (e))] := hl
  have mx9 := hV9 x (by rw [← gk]; exact hs9.1 k0 hk)
  refine lv_aload_n hx hb dJ21_siftUpComparable_0 rfl (lv_at hl 1 rfl) ?_
  refine z_castY C (List.mem_of_getElem? (i := 0) rfl) (show ∃ cellV : Cell, H[x]? = some cellV ∧ cellV.vm.isStatics = false ∧ ss.vm.findClass "SpinStrip$Spot" = some cellV.cls from va_recv C.2.1 (P_two (X := [(e, .inl (dA 7, cap, .inr (.inr (.inr (.inr (f0))))))]) hP mx9.1 mx9.1) (q0 := 0) (ci := 11) rfl rfl) q1736 dJ21_siftUpComparable_1 ?_
  refine lv_astore_n (lv' := [(3, .ref (x)), (0, .int (zI ((k0 : Nat) : Int))), (1, .ref (x)), (2, .ref (e))]) hx hb dJ21_siftUpComparable_4 rfl hl (by decide) rfl (fun ls hl => ?_)
  have L5 : ∀ (N : Nat) (k : Nat) (f : Nat → Option Nat) (gg : Nat → Nat), (k < n) → (gg k = x) → (pqH f gg n k) → (hpU (spK st hi) gg n k) → (hpS gg n S9) → (∀ i, n ≤ i → f i = f0 i) → (k) < N → ∀ (H : Heap) (locs : List Loc), va_P D vwCl ([(e, .inl (dA 7, cap, .inr (.inr (.inr (.inr (f))))))] ++ va_pl LS (spE st hi)) H → va_D A ([(e, .inl (dA 7, cap, .inr (.inr (.inr (.inr (f))))))] ++ va_pl LS (spE st hi)) → va_S A ss.heap H locs → ∀ ls : Array Slot, lv_has ls 6 [(0, .int (zI ((k : Nat) : Int))), (1, .ref (x)), (2, .ref (e)), (3, .ref (x))] → W pp l ee (zRmW 2 42 0 0) ss mm args below meth cd H locs 0 0 Q (F0 mm 5 ls []) := by
    intro N
    induction N with
    | zero => intro k f gg _ _ _ _ _ _ hm; exact absurd hm (Nat.not_lt_zero _)
    | succ N ih5 =>
      intro k f gg hk gk hf hu hs9 ho hmz5 H locs hP hD hS ls hl
      refine lv_iload_n hx hb dJ21_siftUpComparable_5 rfl (lv_at hl 0 rfl) ?_
      refine z_if_le (tgt := 47) C ⟨by omega, by omega⟩ dJ21_siftUpComparable_6 (by decide) (fun c_6 => ?_) (fun c_6 => ?_)
      · refine lv_aload_n hx hb dJ21_siftUpComparable_47 rfl (lv_at hl 2 rfl) ?_
        refine lv_iload_n hx hb dJ21_siftUpComparable_48 rfl (lv_at hl 0 rfl) ?_
        refine lv_aload_n hx hb dJ21_siftUpComparable_49 rfl (lv_at hl 3 rfl) ?_
        refine z_aastO C hP hD hS 0 7 rfl (Cn := "SpinStrip$Spot") rfl (show ∃ cellV : Cell, H[x]? = some cellV ∧ cellV.vm.isStatics = false ∧ ss.vm.findClass "SpinStrip$Spot" = some cellV.cls from va_recv C.2.1 (P_two (X := [(e, .inl (dA 7, cap, .inr (.inr (.inr (.inr (f))))))]) hP mx9.1 mx9.1) (q0 := 0) (ci := 11) rfl rfl) (Or.inl (by decide)) (k) rfl (by omega) (by first | decide | omega) (ws' := ([(e, .inl (dA 7, cap, .inr (.inr (.inr (.inr ((va_up f k (some x))))))))] ++ va_pl LS (spE st hi))) rfl dJ21_siftUpComparable_50 (fun H locs hP hD hS => ?_)
        exact z_vretG C hlk hr hQ ⟨(va_up f k (some x)), gg⟩ rfl ⟨pqH_end hf gk, hp_upE hu (by first | exact Or.inl (by omega) | exact Or.inr (by show spK st hi (gg ((k - 1) / 2)) ≤ spK st hi (gg k); rw [gk, ← hpr]; have z9 := sg9.1; unfold spK; omega)), hs9, (fun i hi => (va_upn (by omega)).trans (ho i hi))⟩ hP hD hS (Nat.le_of_ble_eq_true rfl) (Nat.le_of_ble_eq_true rfl) dJ21_siftUpComparable_51
      · refine lv_iload_n hx hb dJ21_siftUpComparable_9 rfl (lv_at hl 0 rfl) ?_
        refine z_iconst C dJ21_siftUpComparable_10 ?_
        refine z_isubN C (k) (1) rfl rfl (by omega) dJ21_siftUpComparable_11 ?_
        refine z_iconst C dJ21_siftUpComparable_12 ?_
        refine z_iushr C ((k - 1)) (1) rfl rfl (by omega) (by omega) dJ21_siftUpComparable_13 ?_
        refine z_nmN (fun pr_1 e_pr_1 => ?_)
        have hpr : pr_1 = (k - 1) / 2 := by rw [e_pr_1]
        have mp9 := hV9 (gg pr_1) (hs9.1 pr_1 (by omega))
        have sg9 := sp_sign (h1 := hi x) (h2 := hi (gg pr_1)) mx9.2.1 mp9.2.1
        have zr9 := mx9.2.2
        refine lv_istore (lv' := [(4, .int (zI ((pr_1 : Nat) : Int))), (0, .int (zI ((k : Nat) : Int))), (1, .ref (x)), (2, .ref (e)), (3, .ref (x))]) hx hb dJ21_siftUpComparable_14 hl (by decide) rfl (fun ls hl => ?_)
        refine lv_aload_n hx hb dJ21_siftUpComparable_16 rfl (lv_at hl 3 rfl) ?_
        refine lv_iload hx hb dJ21_siftUpComparable_17 (lv_at hl 0 rfl) ?_
        refine z_aaldW C hP 0 7 rfl rfl (pr_1) rfl (by omega) (by first | decide | omega) dJ21_siftUpComparable_19 ?_
        rw [hf pr_1 (by omega) (by omega)]
        refine lv_astore (lv' := [(5, .ref (gg pr_1)), (4, .int (zI ((pr_1 : Nat) : Int))), (0, .int (zI ((k : Nat) : Int))), (1, .ref (x)), (2, .ref (e)), (3, .ref (x))]) hx hb dJ21_siftUpComparable_20 hl (by decide) rfl (fun ls hl => ?_)
        refine lv_aload_n hx hb dJ21_siftUpComparable_22 rfl (lv_at hl 5 rfl) ?_
        refine lv_aload hx hb dJ21_siftUpComparable_23 (lv_at hl 0 rfl) ?_
        refine z_cF (n := 1) (As := [.ref (gg pr_1)]) (rest := []) (x := yCmpTo) C (k_X11_compareTo l D dA x (gg pr_1) (st x) (st (gg pr_1)) (hi x) (hi (gg pr_1)) mx9.2.1 mp9.2.1 (show zR (hi x) from ⟨by omega, by omega⟩) (show zR (hi (gg pr_1)) from ⟨by omega, by omega⟩)) q1738 q1064 q1066 q147 q1068 (List.mem_of_getElem? (i := 0) rfl) 11 rfl (by decide +kernel) rfl ⟨Nat.le_of_ble_eq_true rfl, Nat.le_of_ble_eq_true rfl⟩ hl.1 (P_two (X := [(e, .inl (dA 7, cap, .inr (.inr (.inr (.inr (f))))))]) hP mx9.1 mp9.1) (show ∃ cellV : Cell, H[x]? = some cellV ∧ cellV.vm.isStatics = false ∧ ss.vm.findClass "SpinStrip$Spot" = some cellV.cls from va_recv C.2.1 (P_two (X := [(e, .inl (dA 7, cap, .inr (.inr (.inr (.inr (f))))))]) hP mx9.1 mx9.1) (q0 := 0) (ci := 11) rfl rfl) rfl (Nat.le_of_ble_eq_true rfl) dJ21_siftUpComparable_25 (Nat.zero_le _) (Nat.zero_le _) ?_
        refine z_nm (fun cm_2 e_cm_2 => ?_)
        refine z_if_lt (tgt := 36) C ⟨by omega, by omega⟩ dJ21_siftUpComparable_30 (by decide) (fun c_30 => ?_) (fun c_30 => ?_)
        · have lt9 : spK st hi (gg k) < spK st hi (gg ((k - 1) / 2)) := by rw [gk, ← hpr]; exact sg9.1.mp (by omega)
          refine lv_aload_n hx hb dJ21_siftUpComparable_36 rfl (lv_at hl 4 rfl) ?_
          refine lv_iload_n hx hb dJ21_siftUpComparable_37 rfl (lv_at hl 2 rfl) ?_
          refine lv_aload hx hb dJ21_siftUpComparable_38 (lv_at hl 0 rfl) ?_
          refine z_aastO C hP hD hS 0 7 rfl (Cn := "SpinStrip$Spot") rfl (show ∃ cellV : Cell, H[gg pr_1]? = some cellV ∧ cellV.vm.isStatics = false ∧ ss.vm.findClass "SpinStrip$Spot" = some cellV.cls from va_recv C.2.1 (P_two (X := [(e, .inl (dA 7, cap, .inr (.inr (.inr (.inr (f))))))]) hP mp9.1 mp9.1) (q0 := 0) (ci := 11) rfl rfl) (Or.inl (by decide)) (k) rfl (by omega) (by first | decide | omega) (ws' := ([(e, .inl (dA 7, cap, .inr (.inr (.inr (.inr ((va_up f k (some (gg pr_1)))))))))] ++ va_pl LS (spE st hi))) rfl dJ21_siftUpComparable_40 (fun H locs hP hD hS => ?_)
          refine lv_iload hx hb dJ21_siftUpComparable_41 (lv_at hl 1 rfl) ?_
          refine lv_istore_n (lv' := [(0, .int (zI ((pr_1 : Nat) : Int))), (5, .ref (gg pr_1)), (4, .int (zI ((pr_1 : Nat) : Int))), (1, .ref (x)), (2, .ref (e)), (3, .ref (x))]) hx hb dJ21_siftUpComparable_43 rfl hl (by decide) rfl (fun ls hl => ?_)
          refine lv_goto (tgt := 5) hx hb dJ21_siftUpComparable_44 (by decide) ?_
          exact ih5 (pr_1) ((va_up f k (some (gg pr_1)))) ((va_up (va_up gg k (gg pr_1)) pr_1 x)) (by first | with_reducible assumption | omega | with_reducible rfl) va_upe (pqH_mv hf (by omega) (by omega)) (by have z9 := hp_upS hu (by omega) hk lt9 (g' := va_up (va_up gg k (gg pr_1)) pr_1 x) (by rw [va_upn (by omega), va_upe, hpr]) (by rw [← hpr, va_upe, gk]) (fun i a1 a2 => by rw [va_upn (by omega), va_upn a1]); rw [← hpr] at z9; exact z9) (hpS_swap hs9 hk (show pr_1 < n by omega) (by rw [va_upn (by omega), va_upe]) (by rw [va_upe, gk]) (fun i a1 a2 => by rw [va_upn a2, va_upn a1])) (fun i hi => (va_upn (by omega)).trans (ho i hi)) (by omega) H locs hP hD hS ls (lv_sub hl [0, 3, 4, 5] rfl)
        · refine lv_goto (tgt := 47) hx hb dJ21_siftUpComparable_33 (by decide) ?_
          refine lv_aload_n hx hb dJ21_siftUpComparable_47 rfl (lv_at hl 4 rfl) ?_
          refine lv_iload_n hx hb dJ21_siftUpComparable_48 rfl (lv_at hl 2 rfl) ?_
          refine lv_aload_n hx hb dJ21_siftUpComparable_49 rfl (lv_at hl 5 rfl) ?_
          refine z_aastO C hP hD hS 0 7 rfl (Cn := "SpinStrip$Spot") rfl (show ∃ cellV : Cell, H[x]? = some cellV ∧ cellV.vm.isStatics = false ∧ ss.vm.findClass "SpinStrip$Spot" = some cellV.cls from va_recv C.2.1 (P_two (X := [(e, .inl (dA 7, cap, .inr (.inr (.inr (.inr (f))))))]) hP mx9.1 mx9.1) (q0 := 0) (ci := 11) rfl rfl) (Or.inl (by decide)) (k) rfl (by omega) (by first | decide | omega) (ws' := ([(e, .inl (dA 7, cap, .inr (.inr (.inr (.inr ((va_up f k (some x))))))))] ++ va_pl LS (spE st hi))) rfl dJ21_siftUpComparable_50 (fun H locs hP hD hS => ?_)
          exact z_vretG C hlk hr hQ ⟨(va_up f k (some x)), gg⟩ rfl ⟨pqH_end hf gk, hp_upE hu (by first | exact Or.inl (by omega) | exact Or.inr (by show spK st hi (gg ((k - 1) / 2)) ≤ spK st hi (gg k); rw [gk, ← hpr]; have z9 := sg9.1; unfold spK; omega)), hs9, (fun i hi => (va_upn (by omega)).trans (ho i hi))⟩ hP hD hS (Nat.le_of_ble_eq_true rfl) (Nat.le_of_ble_eq_true rfl) dJ21_siftUpComparable_51
  exact L5 ((k0) + 1) (k0) (f0) (gg) (by first | with_reducible assumption | omega | with_reducible rfl) gk hf hu hs9 (fun _ _ => rfl) (by omega) H locs hP hD hS ls (lv_sub hl [1, 2, 3, 0] rfl)

set_option maxHeartbeats 600000 in
set_option maxRecDepth 100000 in
theorem k_J21_siftDownComparable (l : Launch) (D : va_G) (dA : Nat → ClassId) (B : Nat) (en : Nat → Nat → Nat) (k0 : Nat) (f0 : Nat → Option Nat) (e cap n x : Nat) (gg : Nat → Nat) (S9 : Nat → Prop) (LS : List Nat) (st : Nat → Nat) (hi : Nat → Int) (hcap : n ≤ cap ∧ cap ≤ 100000) (hV9 : ∀ y, S9 y → y ∈ LS ∧ st y < 65536 ∧ -100000 ≤ hi y ∧ hi y ≤ 100000) (hk : k0 < n) (gk : gg k0 = x) (hf : pqH f0 gg n k0) (hd9 : hpD (spK st hi) gg n k0) (hs9 : hpS gg n S9) : zH (S := (Nat → Option Nat) × (Nat → Nat)) l yJ21_siftDownComparable cJ21_siftDownComparable 9 (none) (zRmW 2 42 0 0) B en ([], []) D dA [.int (zI ((k0 : Nat) : Int)), .ref (x), .ref (e), .int (zI ((n : Nat) : Int))] ([(e, .inl (dA 7, cap, .inr (.inr (.inr (.inr (f0))))))] ++ va_pl LS (spE st hi)) (fun u : (Nat → Option Nat) × (Nat → Nat) => none) (fun u : (Nat → Option Nat) × (Nat → Nat) => pqF u.1 u.2 n ∧ hpO (spK st hi) u.2 n ∧ hpS u.2 n S9 ∧ ∀ i, n ≤ i → u.1 i = f0 i) (fun u : (Nat → Option Nat) × (Nat → Nat) => ([(e, .inl (dA 7, cap, .inr (.inr (.inr (.inr (u.1))))))] ++ va_pl LS (spE st hi))) := by
  refine zH.of (by decide +kernel) rfl ?_
  intro pp ee ss mm args below meth cd Q A C hr hlk hQ hA hV hin H locs hP hD hS ls hl
  have hx := C.1.1
  have hb := C.1.2.1
  have hl : lv_has ls 9 [(0, .int (zI ((k0 : Nat) : Int))), (1, .ref (x)), (2, .ref (e)), (3, .int (zI ((n : Nat) : Int)))] := hl
  have mx9 := hV9 x (by rw [← gk]; exact hs9.1 k0 hk)
  refine lv_aload_n hx hb dJ21_siftDownComparable_0 rfl (lv_at hl 1 rfl) ?_
  refine z_castY C (List.mem_of_getElem? (i := 0) rfl) (show ∃ cellV : Cell, H[x]? = some cellV ∧ cellV.vm.isStatics = false ∧ ss.vm.findClass "SpinStrip$Spot" = some cellV.cls from va_recv C.2.1 (P_two (X := [(e, .inl (dA 7, cap, .inr (.inr (.inr (.inr (f0))))))]) hP mx9.1 mx9.1) (q0 := 0) (ci := 11) rfl rfl) q1736 dJ21_siftDownComparable_1 ?_
  refine lv_astore (lv' := [(4, .ref (x)), (0, .int (zI ((k0 : Nat) : Int))), (1, .ref (x)), (2, .ref (e)), (3, .int (zI ((n : Nat) : Int)))]) hx hb dJ21_siftDownComparable_4 hl (by decide) rfl (fun ls hl => ?_)
  refine lv_iload_n hx hb dJ21_siftDownComparable_6 rfl (lv_at hl 4 rfl) ?_
  refine z_iconst C dJ21_siftDownComparable_7 ?_
  refine z_iushr C (n) (1) rfl rfl (by omega) (by omega) dJ21_siftDownComparable_8 ?_
  refine z_nmN (fun hv_1 e_hv_1 => ?_)
  refine lv_istore (lv' := [(5, .int (zI ((hv_1 : Nat) : Int))), (4, .ref (x)), (0, .int (zI ((k0 : Nat) : Int))), (1, .ref (x)), (2, .ref (e)), (3, .int (zI ((n : Nat) : Int)))]) hx hb dJ21_siftDownComparable_9 hl (by decide) rfl (fun ls hl => ?_)
  have L11 : ∀ (N : Nat) (k : Nat) (f : Nat → Option Nat) (gg : Nat → Nat), (k < n) → (gg k = x) → (pqH f gg n k) → (hpD (spK st hi) gg n k) → (hpS gg n S9) → (∀ i, n ≤ i → f i = f0 i) → (n - k) < N → ∀ (H : Heap) (locs : List Loc), va_P D vwCl ([(e, .inl (dA 7, cap, .inr (.inr (.inr (.inr (f))))))] ++ va_pl LS (spE st hi)) H → va_D A ([(e, .inl (dA 7, cap, .inr (.inr (.inr (.inr (f))))))] ++ va_pl LS (spE st hi)) → va_S A ss.heap H locs → ∀ ls : Array Slot, lv_has ls 9 [(0, .int (zI ((k : Nat) : Int))), (1, .ref (x)), (2, .ref (e)), (3, .int (zI ((n : Nat) : Int))), (4, .ref (x)), (5, .int (zI ((hv_1 : Nat) : Int)))] → W pp l ee (zRmW 2 42 0 0) ss mm args below meth cd H locs 0 0 Q (F0 mm 11 ls []) := by
    intro N
    induction N with
    | zero => intro k f gg _ _ _ _ _ _ hm; exact absurd hm (Nat.not_lt_zero _)
    | succ N ih11 =>
      intro k f gg hk gk hf hd9 hs9 ho hmz11 H locs hP hD hS ls hl
      refine lv_iload_n hx hb dJ21_siftDownComparable_11 rfl (lv_at hl 0 rfl) ?_
      refine lv_iload hx hb dJ21_siftDownComparable_12 (lv_at hl 5 rfl) ?_
      refine z_icmp_ge (tgt := 94) C ⟨by omega, by omega⟩ ⟨by omega, by omega⟩ dJ21_siftDownComparable_14 (by decide) (fun c_14 => ?_) (fun c_14 => ?_)
      · refine lv_aload_n hx hb dJ21_siftDownComparable_94 rfl (lv_at hl 2 rfl) ?_
        refine lv_iload_n hx hb dJ21_siftDownComparable_95 rfl (lv_at hl 0 rfl) ?_
        refine lv_aload hx hb dJ21_siftDownComparable_96 (lv_at hl 4 rfl) ?_
        refine z_aastO C hP hD hS 0 7 rfl (Cn := "SpinStrip$Spot") rfl (show ∃ cellV : Cell, H[x]? = some cellV ∧ cellV.vm.isStatics = false ∧ ss.vm.findClass "SpinStrip$Spot" = some cellV.cls from va_recv C.2.1 (P_two (X := [(e, .inl (dA 7, cap, .inr (.inr (.inr (.inr (f))))))]) hP mx9.1 mx9.1) (q0 := 0) (ci := 11) rfl rfl) (Or.inl (by decide)) (k) rfl (by omega) (by first | decide | omega) (ws' := ([(e, .inl (dA 7, cap, .inr (.inr (.inr (.inr ((va_up f k (some x))))))))] ++ va_pl LS (spE st hi))) rfl dJ21_siftDownComparable_98 (fun H locs hP hD hS => ?_)
        exact z_vretG C hlk hr hQ ⟨(va_up f k (some x)), gg⟩ rfl ⟨pqH_end hf gk, hp_dnE hd9 (fun i a1 a2 a3 => by show spK st hi (gg k) ≤ spK st hi (gg i); first | (have z8 := hch.2.2.2 i a1 a2 a3; have z9 := sg9.2; rw [gk]; unfold spK at z8 ⊢; omega) | (exfalso; omega)), hs9, (fun i hi => (va_upn (by omega)).trans (ho i hi))⟩ hP hD hS (Nat.le_of_ble_eq_true rfl) (Nat.le_of_ble_eq_true rfl) dJ21_siftDownComparable_99
      · have J68 : ∀ (ch : Nat), ((ch - 1) / 2 = k ∧ 0 < ch ∧ ch < n ∧ ∀ i, 0 < i → i < n → (i - 1) / 2 = k → spK st hi (gg ch) ≤ spK st hi (gg i)) → ∀ (H : Heap) (locs : List Loc), va_P D vwCl ([(e, .inl (dA 7, cap, .inr (.inr (.inr (.inr (f))))))] ++ va_pl LS (spE st hi)) H → va_D A ([(e, .inl (dA 7, cap, .inr (.inr (.inr (.inr (f))))))] ++ va_pl LS (spE st hi)) → va_S A ss.heap H locs → ∀ ls : Array Slot, lv_has ls 9 [(0, .int (zI ((k : Nat) : Int))), (1, .ref (x)), (2, .ref (e)), (3, .int (zI ((n : Nat) : Int))), (4, .ref (x)), (5, .int (zI ((hv_1 : Nat) : Int))), (6, .int (zI ((ch : Nat) : Int))), (7, .ref (gg ch))] → W pp l ee (zRmW 2 42 0 0) ss mm args below meth cd H locs 0 0 Q (F0 mm 68 ls []) := by
          intro ch hch H locs hP hD hS ls hl
          have mc9 := hV9 (gg ch) (hs9.1 ch hch.2.2.1)
          have sg9 := sp_sign (h1 := hi x) (h2 := hi (gg ch)) mx9.2.1 mc9.2.1
          refine lv_aload hx hb dJ21_siftDownComparable_68 (lv_at hl 4 rfl) ?_
          refine lv_aload hx hb dJ21_siftDownComparable_70 (lv_at hl 7 rfl) ?_
          refine z_cF (n := 1) (As := [.ref (gg ch)]) (rest := []) (x := yCmpTo) C (k_X11_compareTo l D dA x (gg ch) (st x) (st (gg ch)) (hi x) (hi (gg ch)) mx9.2.1 mc9.2.1 (show zR (hi x) from ⟨by omega, by omega⟩) (show zR (hi (gg ch)) from ⟨by omega, by omega⟩)) q1738 q1064 q1066 q147 q1068 (List.mem_of_getElem? (i := 0) rfl) 11 rfl (by decide +kernel) rfl ⟨Nat.le_of_ble_eq_true rfl, Nat.le_of_ble_eq_true rfl⟩ hl.1 (P_two (X := [(e, .inl (dA 7, cap, .inr (.inr (.inr (.inr (f))))))]) hP mx9.1 mc9.1) (show ∃ cellV : Cell, H[x]? = some cellV ∧ cellV.vm.isStatics = false ∧ ss.vm.findClass "SpinStrip$Spot" = some cellV.cls from va_recv C.2.1 (P_two (X := [(e, .inl (dA 7, cap, .inr (.inr (.inr (.inr (f))))))]) hP mx9.1 mx9.1) (q0 := 0) (ci := 11) rfl rfl) rfl (Nat.le_of_ble_eq_true rfl) dJ21_siftDownComparable_72 (Nat.zero_le _) (Nat.zero_le _) ?_
          refine z_nm (fun cx_2 e_cx_2 => ?_)
          refine z_if_gt (tgt := 83) C ⟨by omega, by omega⟩ dJ21_siftDownComparable_77 (by decide) (fun c_77 => ?_) (fun c_77 => ?_)
          · have lt9 : spK st hi (gg ch) < spK st hi (gg k) := by rw [gk]; exact sg9.2.mp (by omega)
            refine lv_aload_n hx hb dJ21_siftDownComparable_83 rfl (lv_at hl 2 rfl) ?_
            refine lv_iload_n hx hb dJ21_siftDownComparable_84 rfl (lv_at hl 0 rfl) ?_
            refine lv_aload hx hb dJ21_siftDownComparable_85 (lv_at hl 7 rfl) ?_
            refine z_aastO C hP hD hS 0 7 rfl (Cn := "SpinStrip$Spot") rfl (show ∃ cellV : Cell, H[gg ch]? = some cellV ∧ cellV.vm.isStatics = false ∧ ss.vm.findClass "SpinStrip$Spot" = some cellV.cls from va_recv C.2.1 (P_two (X := [(e, .inl (dA 7, cap, .inr (.inr (.inr (.inr (f))))))]) hP mc9.1 mc9.1) (q0 := 0) (ci := 11) rfl rfl) (Or.inl (by decide)) (k) rfl (by omega) (by first | decide | omega) (ws' := ([(e, .inl (dA 7, cap, .inr (.inr (.inr (.inr ((va_up f k (some (gg ch)))))))))] ++ va_pl LS (spE st hi))) rfl dJ21_siftDownComparable_87 (fun H locs hP hD hS => ?_)
            refine lv_iload hx hb dJ21_siftDownComparable_88 (lv_at hl 6 rfl) ?_
            refine lv_istore_n (lv' := [(0, .int (zI ((ch : Nat) : Int))), (1, .ref (x)), (2, .ref (e)), (3, .int (zI ((n : Nat) : Int))), (4, .ref (x)), (5, .int (zI ((hv_1 : Nat) : Int))), (6, .int (zI ((ch : Nat) : Int))), (7, .ref (gg ch))]) hx hb dJ21_siftDownComparable_90 rfl hl (by decide) rfl (fun ls hl => ?_)
            refine lv_goto (tgt := 11) hx hb dJ21_siftDownComparable_91 (by decide) ?_
            exact ih11 (ch) ((va_up f k (some (gg ch)))) ((va_up (va_up gg k (gg ch)) ch x)) (by first | with_reducible assumption | omega | with_reducible rfl) va_upe (pqH_mv hf (by omega) (by omega)) (hp_dnS hd9 hch.1 hch.2.1 hch.2.2.1 hch.2.2.2 lt9 (by rw [va_upn (by omega), va_upe]) (by rw [va_upe, gk]) (fun i a1 a2 => by rw [va_upn a2, va_upn a1])) (hpS_swap hs9 hk hch.2.2.1 (by rw [va_upn (by omega), va_upe]) (by rw [va_upe, gk]) (fun i a1 a2 => by rw [va_upn a2, va_upn a1])) (fun i hi => (va_upn (by omega)).trans (ho i hi)) (by omega) H locs hP hD hS ls (lv_sub hl [0, 1, 2, 3, 4, 5] rfl)
          · refine lv_goto (tgt := 94) hx hb dJ21_siftDownComparable_80 (by decide) ?_
            refine lv_aload_n hx hb dJ21_siftDownComparable_94 rfl (lv_at hl 2 rfl) ?_
            refine lv_iload_n hx hb dJ21_siftDownComparable_95 rfl (lv_at hl 0 rfl) ?_
            refine lv_aload hx hb dJ21_siftDownComparable_96 (lv_at hl 4 rfl) ?_
            refine z_aastO C hP hD hS 0 7 rfl (Cn := "SpinStrip$Spot") rfl (show ∃ cellV : Cell, H[x]? = some cellV ∧ cellV.vm.isStatics = false ∧ ss.vm.findClass "SpinStrip$Spot" = some cellV.cls from va_recv C.2.1 (P_two (X := [(e, .inl (dA 7, cap, .inr (.inr (.inr (.inr (f))))))]) hP mx9.1 mx9.1) (q0 := 0) (ci := 11) rfl rfl) (Or.inl (by decide)) (k) rfl (by omega) (by first | decide | omega) (ws' := ([(e, .inl (dA 7, cap, .inr (.inr (.inr (.inr ((va_up f k (some x))))))))] ++ va_pl LS (spE st hi))) rfl dJ21_siftDownComparable_98 (fun H locs hP hD hS => ?_)
            exact z_vretG C hlk hr hQ ⟨(va_up f k (some x)), gg⟩ rfl ⟨pqH_end hf gk, hp_dnE hd9 (fun i a1 a2 a3 => by show spK st hi (gg k) ≤ spK st hi (gg i); first | (have z8 := hch.2.2.2 i a1 a2 a3; have z9 := sg9.2; rw [gk]; unfold spK at z8 ⊢; omega) | (exfalso; omega)), hs9, (fun i hi => (va_upn (by omega)).trans (ho i hi))⟩ hP hD hS (Nat.le_of_ble_eq_true rfl) (Nat.le_of_ble_eq_true rfl) dJ21_siftDownComparable_99
        refine lv_iload_n hx hb dJ21_siftDownComparable_17 rfl (lv_at hl 0 rfl) ?_
        refine z_iconst C dJ21_siftDownComparable_18 ?_
        refine z_ishlN C (k) (1) rfl rfl (by omega) dJ21_siftDownComparable_19 ?_
        refine z_iconst C dJ21_siftDownComparable_20 ?_
        refine z_iaddN C ((k * 2 ^ 1)) (1) rfl rfl dJ21_siftDownComparable_21 ?_
        refine z_nmN (fun cc_3 e_cc_3 => ?_)
        have hcc : cc_3 = 2 * k + 1 := by rw [e_cc_3]; omega
        have ml9 := hV9 (gg cc_3) (hs9.1 cc_3 (by omega))
        refine lv_istore (lv' := [(6, .int (zI ((cc_3 : Nat) : Int))), (0, .int (zI ((k : Nat) : Int))), (1, .ref (x)), (2, .ref (e)), (3, .int (zI ((n : Nat) : Int))), (4, .ref (x)), (5, .int (zI ((hv_1 : Nat) : Int)))]) hx hb dJ21_siftDownComparable_22 hl (by decide) rfl (fun ls hl => ?_)
        refine lv_aload_n hx hb dJ21_siftDownComparable_24 rfl (lv_at hl 3 rfl) ?_
        refine lv_iload hx hb dJ21_siftDownComparable_25 (lv_at hl 0 rfl) ?_
        refine z_aaldW C hP 0 7 rfl rfl (cc_3) rfl (by omega) (by first | decide | omega) dJ21_siftDownComparable_27 ?_
        rw [hf cc_3 (by omega) (by omega)]
        refine lv_astore (lv' := [(7, .ref (gg cc_3)), (6, .int (zI ((cc_3 : Nat) : Int))), (0, .int (zI ((k : Nat) : Int))), (1, .ref (x)), (2, .ref (e)), (3, .int (zI ((n : Nat) : Int))), (4, .ref (x)), (5, .int (zI ((hv_1 : Nat) : Int)))]) hx hb dJ21_siftDownComparable_28 hl (by decide) rfl (fun ls hl => ?_)
        refine lv_iload hx hb dJ21_siftDownComparable_30 (lv_at hl 1 rfl) ?_
        refine z_iconst C dJ21_siftDownComparable_32 ?_
        refine z_iaddN C (cc_3) (1) rfl rfl dJ21_siftDownComparable_33 ?_
        refine lv_istore (lv' := [(8, .int (zI (((cc_3 + 1) : Nat) : Int))), (7, .ref (gg cc_3)), (6, .int (zI ((cc_3 : Nat) : Int))), (0, .int (zI ((k : Nat) : Int))), (1, .ref (x)), (2, .ref (e)), (3, .int (zI ((n : Nat) : Int))), (4, .ref (x)), (5, .int (zI ((hv_1 : Nat) : Int)))]) hx hb dJ21_siftDownComparable_34 hl (by decide) rfl (fun ls hl => ?_)
        refine lv_iload hx hb dJ21_siftDownComparable_36 (lv_at hl 0 rfl) ?_
        refine lv_iload_n hx hb dJ21_siftDownComparable_38 rfl (lv_at hl 6 rfl) ?_
        refine z_icmp_ge (tgt := 68) C ⟨by omega, by omega⟩ ⟨by omega, by omega⟩ dJ21_siftDownComparable_39 (by decide) (fun c_39 => ?_) (fun c_39 => ?_)
        · exact J68 (cc_3) (by first | exact ⟨by omega, by omega, by omega, fun i a1 a2 a3 => by rw [show i = cc_3 by omega]; exact Int.le_refl _⟩ | exact ⟨by omega, by omega, by omega, fun i a1 a2 a3 => by rcases (show i = cc_3 ∨ i = cc_3 + 1 by omega) with q | q <;> rw [q] <;> have z9 := sg8.2 <;> unfold spK <;> omega⟩) H locs hP hD hS ls (lv_sub hl [3, 4, 5, 6, 7, 8, 2, 1] rfl)
        · refine lv_aload hx hb dJ21_siftDownComparable_42 (lv_at hl 1 rfl) ?_
          refine z_castY C (List.mem_of_getElem? (i := 0) rfl) (show ∃ cellV : Cell, H[gg cc_3]? = some cellV ∧ cellV.vm.isStatics = false ∧ ss.vm.findClass "SpinStrip$Spot" = some cellV.cls from va_recv C.2.1 (P_two (X := [(e, .inl (dA 7, cap, .inr (.inr (.inr (.inr (f))))))]) hP ml9.1 ml9.1) (q0 := 0) (ci := 11) rfl rfl) q1736 dJ21_siftDownComparable_44 ?_
          refine lv_aload_n hx hb dJ21_siftDownComparable_47 rfl (lv_at hl 5 rfl) ?_
          refine lv_iload hx hb dJ21_siftDownComparable_48 (lv_at hl 0 rfl) ?_
          refine z_aaldW C hP 0 7 rfl rfl ((cc_3 + 1)) rfl (by omega) (by first | decide | omega) dJ21_siftDownComparable_50 ?_
          rw [hf (cc_3 + 1) (by omega) (by omega)]
          have mr9 := hV9 (gg (cc_3 + 1)) (hs9.1 (cc_3 + 1) (by omega))
          have sg8 := sp_sign (h1 := hi (gg cc_3)) (h2 := hi (gg (cc_3 + 1))) ml9.2.1 mr9.2.1
          refine z_cF (n := 1) (As := [.ref (gg (cc_3 + 1))]) (rest := []) (x := yCmpTo) C (k_X11_compareTo l D dA (gg cc_3) (gg (cc_3 + 1)) (st (gg cc_3)) (st (gg (cc_3 + 1))) (hi (gg cc_3)) (hi (gg (cc_3 + 1))) ml9.2.1 mr9.2.1 (show zR (hi (gg cc_3)) from ⟨by omega, by omega⟩) (show zR (hi (gg (cc_3 + 1))) from ⟨by omega, by omega⟩)) q1738 q1064 q1066 q147 q1068 (List.mem_of_getElem? (i := 0) rfl) 11 rfl (by decide +kernel) rfl ⟨Nat.le_of_ble_eq_true rfl, Nat.le_of_ble_eq_true rfl⟩ hl.1 (P_two (X := [(e, .inl (dA 7, cap, .inr (.inr (.inr (.inr (f))))))]) hP ml9.1 mr9.1) (show ∃ cellV : Cell, H[gg cc_3]? = some cellV ∧ cellV.vm.isStatics = false ∧ ss.vm.findClass "SpinStrip$Spot" = some cellV.cls from va_recv C.2.1 (P_two (X := [(e, .inl (dA 7, cap, .inr (.inr (.inr (.inr (f))))))]) hP ml9.1 ml9.1) (q0 := 0) (ci := 11) rfl rfl) rfl (Nat.le_of_ble_eq_true rfl) dJ21_siftDownComparable_51 (Nat.zero_le _) (Nat.zero_le _) ?_
          refine z_nm (fun cm_4 e_cm_4 => ?_)
          refine z_if_le (tgt := 68) C ⟨by omega, by omega⟩ dJ21_siftDownComparable_56 (by decide) (fun c_56 => ?_) (fun c_56 => ?_)
          · exact J68 (cc_3) (by first | exact ⟨by omega, by omega, by omega, fun i a1 a2 a3 => by rw [show i = cc_3 by omega]; exact Int.le_refl _⟩ | exact ⟨by omega, by omega, by omega, fun i a1 a2 a3 => by rcases (show i = cc_3 ∨ i = cc_3 + 1 by omega) with q | q <;> rw [q] <;> have z9 := sg8.2 <;> unfold spK <;> omega⟩) H locs hP hD hS ls (lv_sub hl [3, 4, 5, 6, 7, 8, 2, 1] rfl)
          · refine lv_aload_n hx hb dJ21_siftDownComparable_59 rfl (lv_at hl 5 rfl) ?_
            refine lv_iload hx hb dJ21_siftDownComparable_60 (lv_at hl 0 rfl) ?_
            refine lv_dup hx hb dJ21_siftDownComparable_62 rfl ?_
            refine lv_istore (lv' := [(6, .int (zI (((cc_3 + 1) : Nat) : Int))), (8, .int (zI (((cc_3 + 1) : Nat) : Int))), (7, .ref (gg cc_3)), (0, .int (zI ((k : Nat) : Int))), (1, .ref (x)), (2, .ref (e)), (3, .int (zI ((n : Nat) : Int))), (4, .ref (x)), (5, .int (zI ((hv_1 : Nat) : Int)))]) hx hb dJ21_siftDownComparable_63 hl (by decide) rfl (fun ls hl => ?_)
            refine z_aaldW C hP 0 7 rfl rfl ((cc_3 + 1)) rfl (by omega) (by first | decide | omega) dJ21_siftDownComparable_65 ?_
            rw [hf (cc_3 + 1) (by omega) (by omega)]
            refine lv_astore (lv' := [(7, .ref (gg (cc_3 + 1))), (6, .int (zI (((cc_3 + 1) : Nat) : Int))), (8, .int (zI (((cc_3 + 1) : Nat) : Int))), (0, .int (zI ((k : Nat) : Int))), (1, .ref (x)), (2, .ref (e)), (3, .int (zI ((n : Nat) : Int))), (4, .ref (x)), (5, .int (zI ((hv_1 : Nat) : Int)))]) hx hb dJ21_siftDownComparable_66 hl (by decide) rfl (fun ls hl => ?_)
            exact J68 ((cc_3 + 1)) (by first | exact ⟨by omega, by omega, by omega, fun i a1 a2 a3 => by rw [show i = cc_3 by omega]; exact Int.le_refl _⟩ | exact ⟨by omega, by omega, by omega, fun i a1 a2 a3 => by rcases (show i = cc_3 ∨ i = cc_3 + 1 by omega) with q | q <;> rw [q] <;> have z9 := sg8.2 <;> unfold spK <;> omega⟩) H locs hP hD hS ls (lv_sub hl [3, 4, 5, 6, 7, 8, 1, 0] rfl)
  exact L11 ((n - k0) + 1) (k0) (f0) (gg) (by first | with_reducible assumption | omega | with_reducible rfl) gk hf hd9 hs9 (fun _ _ => rfl) (by omega) H locs hP hD hS ls (lv_sub hl [2, 3, 4, 5, 1, 0] rfl)
