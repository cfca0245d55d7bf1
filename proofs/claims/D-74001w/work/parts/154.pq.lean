/-! PriorityQueue (printed by tools/s_pq.py) -/
theorem gr_sign {v w : Nat} (hv : 0 < v ∧ v < 65536) (hw : 0 < w ∧ w < 65536) : (grC v w < 0 ↔ grK v < grK w) ∧ (0 < grC v w ↔ grK w < grK v) ∧ -100 ≤ grC v w ∧ grC v w ≤ 100 := by
  have t1 := (tz_spec hv.1 hv.2).1
  have t2 := (tz_spec hw.1 hw.2).1
  have p1 : pop v ≤ 32 := pcf_le 32 v
  have p2 : pop w ≤ 32 := pcf_le 32 w
  unfold grC grK
  split <;> omega
/-- a row holds gg below n -/
def pqF (f : Nat → Option Nat) (gg : Nat → Nat) (n : Nat) : Prop := ∀ i, i < n → f i = some (gg i)
/-- .. but at k -/
def pqH (f : Nat → Option Nat) (gg : Nat → Nat) (n k : Nat) : Prop := ∀ i, i < n → i ≠ k → f i = some (gg i)
theorem pqH_mv {f : Nat → Option Nat} {gg : Nat → Nat} {n k p x : Nat} (h : pqH f gg n k) (hk : k ≠ p) (hp : p < n) : pqH (va_up f k (some (gg p))) (va_up (va_up gg k (gg p)) p x) n p := by
  intro i hi hne
  by_cases c : i = k
  · subst c; rw [va_upe, va_upn hne, va_upe]
  · rw [va_upn c, va_upn hne, va_upn c]; exact h i hi c
theorem pqH_end {f : Nat → Option Nat} {gg : Nat → Nat} {n k x : Nat} (h : pqH f gg n k) (hx : gg k = x) : pqF (va_up f k (some x)) gg n := by
  intro i hi
  by_cases c : i = k
  · subst c; rw [va_upe, hx]
  · rw [va_upn c]; exact h i hi c

set_option maxHeartbeats 600000 in
set_option maxRecDepth 100000 in
theorem k_J21_siftUpUsingComparator (l : Launch) (D : va_G) (dA : Nat → ClassId) (B : Nat) (en : Nat → Nat → Nat) (k0 : Nat) (f0 : Nat → Option Nat) (fz : zFt) (e cap n cq x : Nat) (gg : Nat → Nat) (V : Nat → Nat) (S9 : Nat → Prop) (hcap : n ≤ cap ∧ cap ≤ 100000) (hV9 : ∀ y, S9 y → (y, (V y : Int)) ∈ fz.1 ∧ 0 < V y ∧ V y < 65536) (hc9 : (cq, "SpinStrip$Greater") ∈ fz.2) (hk : k0 < n) (gk : gg k0 = x) (hf : pqH f0 gg n k0) (hu : hpU (fun y => grK (V y)) gg n k0) (hs9 : hpS gg n S9) : zH (S := (Nat → Option Nat) × (Nat → Nat)) l yJ21_siftUpUsingComparator cJ21_siftUpUsingComparator 6 (none) (zRmW 4 86 0 0) B en fz D dA [.int (zI ((k0 : Nat) : Int)), .ref (x), .ref (e), .ref (cq)] [(e, .inl (dA 7, cap, .inr (.inr (.inr (.inr (f0))))))] (fun u : (Nat → Option Nat) × (Nat → Nat) => none) (fun u : (Nat → Option Nat) × (Nat → Nat) => pqF u.1 u.2 n ∧ hpO (fun y => grK (V y)) u.2 n ∧ hpS u.2 n S9 ∧ ∀ i, n ≤ i → u.1 i = f0 i) (fun u : (Nat → Option Nat) × (Nat → Nat) => [(e, .inl (dA 7, cap, .inr (.inr (.inr (.inr (u.1))))))]) := by
  refine zH.of (by decide +kernel) rfl ?_
  intro pp ee ss mm args below meth cd Q A C hr hlk hQ hA hV hin H locs hP hD hS ls hl
  have hx := C.1.1
  have hb := C.1.2.1
  have hl : lv_has ls 6 [(0, .int (zI ((k0 : Nat) : Int))), (1, .ref (x)), (2, .ref (e)), (3, .ref (cq))] := hl
  have L0 : ∀ (N : Nat) (k : Nat) (f : Nat → Option Nat) (gg : Nat → Nat), (k < n) → (gg k = x) → (pqH f gg n k) → (hpU (fun y => grK (V y)) gg n k) → (hpS gg n S9) → (∀ i, n ≤ i → f i = f0 i) → (k) < N → ∀ (H : Heap) (locs : List Loc), va_P D vwCl [(e, .inl (dA 7, cap, .inr (.inr (.inr (.inr (f))))))] H → va_D A [(e, .inl (dA 7, cap, .inr (.inr (.inr (.inr (f))))))] → va_S A ss.heap H locs → ∀ ls : Array Slot, lv_has ls 6 [(0, .int (zI ((k : Nat) : Int))), (1, .ref (x)), (2, .ref (e)), (3, .ref (cq))] → W pp l ee (zRmW 4 86 0 0) ss mm args below meth cd H locs 0 0 Q (F0 mm 0 ls []) := by
    intro N
    induction N with
    | zero => intro k f gg _ _ _ _ _ _ hm; exact absurd hm (Nat.not_lt_zero _)
    | succ N ih0 =>
      intro k f gg hk gk hf hu hs9 ho hmz0 H locs hP hD hS ls hl
      refine lv_iload_n hx hb dJ21_siftUpUsingComparator_0 rfl (lv_at hl 0 rfl) ?_
      refine z_if_le (tgt := 43) C ⟨by omega, by omega⟩ dJ21_siftUpUsingComparator_1 (by decide) (fun c_1 => ?_) (fun c_1 => ?_)
      · have mx9 := hV9 x (by rw [← gk]; exact hs9.1 k hk)
        refine lv_aload_n hx hb dJ21_siftUpUsingComparator_43 rfl (lv_at hl 2 rfl) ?_
        refine lv_iload_n hx hb dJ21_siftUpUsingComparator_44 rfl (lv_at hl 0 rfl) ?_
        refine lv_aload_n hx hb dJ21_siftUpUsingComparator_45 rfl (lv_at hl 1 rfl) ?_
        refine z_aastO C hP hD hS 0 7 rfl (Cn := "java/lang/Integer") rfl ((hV.fz hS).icell mx9.1) (Or.inl (by decide)) (k) rfl (by omega) (by first | decide | omega) (ws' := [(e, .inl (dA 7, cap, .inr (.inr (.inr (.inr ((va_up f k (some x))))))))]) rfl dJ21_siftUpUsingComparator_46 (fun H locs hP hD hS => ?_)
        exact z_vretG C hlk hr hQ ⟨(va_up f k (some x)), gg⟩ rfl ⟨pqH_end hf gk, hp_upE hu (by first | exact Or.inl (by omega) | exact Or.inr (by show grK (V (gg ((k - 1) / 2))) ≤ grK (V (gg k)); rw [gk, ← hpr]; have z9 := sg9.1; omega)), hs9, (fun i hi => (va_upn (by omega)).trans (ho i hi))⟩ (hP.sub [0] rfl) (hD.sub [0] (by decide) rfl) hS (Nat.le_of_ble_eq_true rfl) (Nat.le_of_ble_eq_true rfl) dJ21_siftUpUsingComparator_47
      · refine lv_iload_n hx hb dJ21_siftUpUsingComparator_4 rfl (lv_at hl 0 rfl) ?_
        refine z_iconst C dJ21_siftUpUsingComparator_5 ?_
        refine z_isubN C (k) (1) rfl rfl (by omega) dJ21_siftUpUsingComparator_6 ?_
        refine z_iconst C dJ21_siftUpUsingComparator_7 ?_
        refine z_iushr C ((k - 1)) (1) rfl rfl (by omega) (by omega) dJ21_siftUpUsingComparator_8 ?_
        refine z_nmN (fun pr_1 e_pr_1 => ?_)
        have hpr : pr_1 = (k - 1) / 2 := by rw [e_pr_1]
        have mx9 := hV9 x (by rw [← gk]; exact hs9.1 k hk)
        have mp9 := hV9 (gg pr_1) (hs9.1 pr_1 (by omega))
        have sg9 := gr_sign mx9.2 mp9.2
        refine lv_istore (lv' := [(4, .int (zI ((pr_1 : Nat) : Int))), (0, .int (zI ((k : Nat) : Int))), (1, .ref (x)), (2, .ref (e)), (3, .ref (cq))]) hx hb dJ21_siftUpUsingComparator_9 hl (by decide) rfl (fun ls hl => ?_)
        refine lv_aload_n hx hb dJ21_siftUpUsingComparator_11 rfl (lv_at hl 3 rfl) ?_
        refine lv_iload hx hb dJ21_siftUpUsingComparator_12 (lv_at hl 0 rfl) ?_
        refine z_aaldW C hP 0 7 rfl rfl (pr_1) rfl (by omega) (by first | decide | omega) dJ21_siftUpUsingComparator_14 ?_
        rw [hf pr_1 (by omega) (by omega)]
        refine lv_astore (lv' := [(5, .ref (gg pr_1)), (4, .int (zI ((pr_1 : Nat) : Int))), (0, .int (zI ((k : Nat) : Int))), (1, .ref (x)), (2, .ref (e)), (3, .ref (cq))]) hx hb dJ21_siftUpUsingComparator_15 hl (by decide) rfl (fun ls hl => ?_)
        refine lv_aload_n hx hb dJ21_siftUpUsingComparator_17 rfl (lv_at hl 5 rfl) ?_
        refine lv_aload_n hx hb dJ21_siftUpUsingComparator_18 rfl (lv_at hl 3 rfl) ?_
        refine lv_aload hx hb dJ21_siftUpUsingComparator_19 (lv_at hl 0 rfl) ?_
        refine z_nF (n := 2) (As := [.ref (x), .ref (gg pr_1)]) (rest := []) (x := yCmp) C ((hV.pure hS).sub (fun q9 h9 => by simp at h9; rcases h9 with h9 | h9 <;> rw [h9]; exact mx9.1; exact mp9.1) (fun q9 h9 => by simp at h9; rw [h9]; exact hc9)) (k_X12_compare l D dA en (cq) (x) (gg pr_1) ((V x)) ((V (gg pr_1))) mx9.2 mp9.2) q1732 q1250 q1252 q148 q1254 (List.mem_of_getElem? (i := 2) rfl) 12 rfl (by decide +kernel) rfl ⟨Nat.le_of_ble_eq_true rfl, Nat.le_of_ble_eq_true rfl⟩ hl.1 (hP.sub [] rfl) ((hV.pure hS).2.cell hc9) rfl (Nat.le_of_ble_eq_true rfl) dJ21_siftUpUsingComparator_21 (Nat.zero_le _) (Nat.zero_le _) ?_
        refine z_nm (fun cm_2 e_cm_2 => ?_)
        refine z_if_lt (tgt := 32) C ⟨by omega, by omega⟩ dJ21_siftUpUsingComparator_26 (by decide) (fun c_26 => ?_) (fun c_26 => ?_)
        · have lt9 : grK (V (gg k)) < grK (V (gg ((k - 1) / 2))) := by rw [gk, ← hpr]; exact sg9.1.mp (by omega)
          refine lv_aload_n hx hb dJ21_siftUpUsingComparator_32 rfl (lv_at hl 4 rfl) ?_
          refine lv_iload_n hx hb dJ21_siftUpUsingComparator_33 rfl (lv_at hl 2 rfl) ?_
          refine lv_aload hx hb dJ21_siftUpUsingComparator_34 (lv_at hl 0 rfl) ?_
          refine z_aastO C hP hD hS 0 7 rfl (Cn := "java/lang/Integer") rfl ((hV.fz hS).icell mp9.1) (Or.inl (by decide)) (k) rfl (by omega) (by first | decide | omega) (ws' := [(e, .inl (dA 7, cap, .inr (.inr (.inr (.inr ((va_up f k (some (gg pr_1)))))))))]) rfl dJ21_siftUpUsingComparator_36 (fun H locs hP hD hS => ?_)
          refine lv_iload hx hb dJ21_siftUpUsingComparator_37 (lv_at hl 1 rfl) ?_
          refine lv_istore_n (lv' := [(0, .int (zI ((pr_1 : Nat) : Int))), (5, .ref (gg pr_1)), (4, .int (zI ((pr_1 : Nat) : Int))), (1, .ref (x)), (2, .ref (e)), (3, .ref (cq))]) hx hb dJ21_siftUpUsingComparator_39 rfl hl (by decide) rfl (fun ls hl => ?_)
          refine lv_goto (tgt := 0) hx hb dJ21_siftUpUsingComparator_40 (by decide) ?_
          exact ih0 (pr_1) ((va_up f k (some (gg pr_1)))) ((va_up (va_up gg k (gg pr_1)) pr_1 x)) (by first | with_reducible assumption | omega | with_reducible rfl) va_upe (pqH_mv hf (by omega) (by omega)) (by have z9 := hp_upS hu (by omega) hk lt9 (g' := va_up (va_up gg k (gg pr_1)) pr_1 x) (by rw [va_upn (by omega), va_upe, hpr]) (by rw [← hpr, va_upe, gk]) (fun i a1 a2 => by rw [va_upn (by omega), va_upn a1]); rw [← hpr] at z9; exact z9) (hpS_swap hs9 hk (show pr_1 < n by omega) (by rw [va_upn (by omega), va_upe]) (by rw [va_upe, gk]) (fun i a1 a2 => by rw [va_upn a2, va_upn a1])) (fun i hi => (va_upn (by omega)).trans (ho i hi)) (by omega) H locs hP hD hS ls (lv_sub hl [0, 3, 4, 5] rfl)
        · refine lv_goto (tgt := 43) hx hb dJ21_siftUpUsingComparator_29 (by decide) ?_
          have mx9 := hV9 x (by rw [← gk]; exact hs9.1 k hk)
          refine lv_aload_n hx hb dJ21_siftUpUsingComparator_43 rfl (lv_at hl 4 rfl) ?_
          refine lv_iload_n hx hb dJ21_siftUpUsingComparator_44 rfl (lv_at hl 2 rfl) ?_
          refine lv_aload_n hx hb dJ21_siftUpUsingComparator_45 rfl (lv_at hl 3 rfl) ?_
          refine z_aastO C hP hD hS 0 7 rfl (Cn := "java/lang/Integer") rfl ((hV.fz hS).icell mx9.1) (Or.inl (by decide)) (k) rfl (by omega) (by first | decide | omega) (ws' := [(e, .inl (dA 7, cap, .inr (.inr (.inr (.inr ((va_up f k (some x))))))))]) rfl dJ21_siftUpUsingComparator_46 (fun H locs hP hD hS => ?_)
          exact z_vretG C hlk hr hQ ⟨(va_up f k (some x)), gg⟩ rfl ⟨pqH_end hf gk, hp_upE hu (by first | exact Or.inl (by omega) | exact Or.inr (by show grK (V (gg ((k - 1) / 2))) ≤ grK (V (gg k)); rw [gk, ← hpr]; have z9 := sg9.1; omega)), hs9, (fun i hi => (va_upn (by omega)).trans (ho i hi))⟩ (hP.sub [0] rfl) (hD.sub [0] (by decide) rfl) hS (Nat.le_of_ble_eq_true rfl) (Nat.le_of_ble_eq_true rfl) dJ21_siftUpUsingComparator_47
  exact L0 ((k0) + 1) (k0) (f0) (gg) (by first | with_reducible assumption | omega | with_reducible rfl) gk hf hu hs9 (fun _ _ => rfl) (by omega) H locs hP hD hS ls (lv_sub hl [0, 1, 2, 3] rfl)

set_option maxHeartbeats 600000 in
set_option maxRecDepth 100000 in
theorem k_J21_siftDownUsingComparator (l : Launch) (D : va_G) (dA : Nat → ClassId) (B : Nat) (en : Nat → Nat → Nat) (k0 : Nat) (f0 : Nat → Option Nat) (fz : zFt) (e cap n cq x : Nat) (gg : Nat → Nat) (V : Nat → Nat) (S9 : Nat → Prop) (hcap : n ≤ cap ∧ cap ≤ 100000) (hV9 : ∀ y, S9 y → (y, (V y : Int)) ∈ fz.1 ∧ 0 < V y ∧ V y < 65536) (hc9 : (cq, "SpinStrip$Greater") ∈ fz.2) (hk : k0 < n) (gk : gg k0 = x) (hf : pqH f0 gg n k0) (hd9 : hpD (fun y => grK (V y)) gg n k0) (hs9 : hpS gg n S9) : zH (S := (Nat → Option Nat) × (Nat → Nat)) l yJ21_siftDownUsingComparator cJ21_siftDownUsingComparator 9 (none) (zRmW 4 86 0 0) B en fz D dA [.int (zI ((k0 : Nat) : Int)), .ref (x), .ref (e), .int (zI ((n : Nat) : Int)), .ref (cq)] [(e, .inl (dA 7, cap, .inr (.inr (.inr (.inr (f0))))))] (fun u : (Nat → Option Nat) × (Nat → Nat) => none) (fun u : (Nat → Option Nat) × (Nat → Nat) => pqF u.1 u.2 n ∧ hpO (fun y => grK (V y)) u.2 n ∧ hpS u.2 n S9 ∧ ∀ i, n ≤ i → u.1 i = f0 i) (fun u : (Nat → Option Nat) × (Nat → Nat) => [(e, .inl (dA 7, cap, .inr (.inr (.inr (.inr (u.1))))))]) := by
  refine zH.of (by decide +kernel) rfl ?_
  intro pp ee ss mm args below meth cd Q A C hr hlk hQ hA hV hin H locs hP hD hS ls hl
  have hx := C.1.1
  have hb := C.1.2.1
  have hl : lv_has ls 9 [(0, .int (zI ((k0 : Nat) : Int))), (1, .ref (x)), (2, .ref (e)), (3, .int (zI ((n : Nat) : Int))), (4, .ref (cq))] := hl
  refine lv_iload_n hx hb dJ21_siftDownUsingComparator_0 rfl (lv_at hl 3 rfl) ?_
  refine z_iconst C dJ21_siftDownUsingComparator_1 ?_
  refine z_iushr C (n) (1) rfl rfl (by omega) (by omega) dJ21_siftDownUsingComparator_2 ?_
  refine z_nmN (fun hv_1 e_hv_1 => ?_)
  refine lv_istore (lv' := [(5, .int (zI ((hv_1 : Nat) : Int))), (0, .int (zI ((k0 : Nat) : Int))), (1, .ref (x)), (2, .ref (e)), (3, .int (zI ((n : Nat) : Int))), (4, .ref (cq))]) hx hb dJ21_siftDownUsingComparator_3 hl (by decide) rfl (fun ls hl => ?_)
  have L5 : ∀ (N : Nat) (k : Nat) (f : Nat → Option Nat) (gg : Nat → Nat), (k < n) → (gg k = x) → (pqH f gg n k) → (hpD (fun y => grK (V y)) gg n k) → (hpS gg n S9) → (∀ i, n ≤ i → f i = f0 i) → (n - k) < N → ∀ (H : Heap) (locs : List Loc), va_P D vwCl [(e, .inl (dA 7, cap, .inr (.inr (.inr (.inr (f))))))] H → va_D A [(e, .inl (dA 7, cap, .inr (.inr (.inr (.inr (f))))))] → va_S A ss.heap H locs → ∀ ls : Array Slot, lv_has ls 9 [(0, .int (zI ((k : Nat) : Int))), (1, .ref (x)), (2, .ref (e)), (3, .int (zI ((n : Nat) : Int))), (4, .ref (cq)), (5, .int (zI ((hv_1 : Nat) : Int)))] → W pp l ee (zRmW 4 86 0 0) ss mm args below meth cd H locs 0 0 Q (F0 mm 5 ls []) := by
    intro N
    induction N with
    | zero => intro k f gg _ _ _ _ _ _ hm; exact absurd hm (Nat.not_lt_zero _)
    | succ N ih5 =>
      intro k f gg hk gk hf hd9 hs9 ho hmz5 H locs hP hD hS ls hl
      refine lv_iload_n hx hb dJ21_siftDownUsingComparator_5 rfl (lv_at hl 0 rfl) ?_
      refine lv_iload hx hb dJ21_siftDownUsingComparator_6 (lv_at hl 5 rfl) ?_
      refine z_icmp_ge (tgt := 88) C ⟨by omega, by omega⟩ ⟨by omega, by omega⟩ dJ21_siftDownUsingComparator_8 (by decide) (fun c_8 => ?_) (fun c_8 => ?_)
      · have mx9 := hV9 x (by rw [← gk]; exact hs9.1 k hk)
        refine lv_aload_n hx hb dJ21_siftDownUsingComparator_88 rfl (lv_at hl 2 rfl) ?_
        refine lv_iload_n hx hb dJ21_siftDownUsingComparator_89 rfl (lv_at hl 0 rfl) ?_
        refine lv_aload_n hx hb dJ21_siftDownUsingComparator_90 rfl (lv_at hl 1 rfl) ?_
        refine z_aastO C hP hD hS 0 7 rfl (Cn := "java/lang/Integer") rfl ((hV.fz hS).icell mx9.1) (Or.inl (by decide)) (k) rfl (by omega) (by first | decide | omega) (ws' := [(e, .inl (dA 7, cap, .inr (.inr (.inr (.inr ((va_up f k (some x))))))))]) rfl dJ21_siftDownUsingComparator_91 (fun H locs hP hD hS => ?_)
        exact z_vretG C hlk hr hQ ⟨(va_up f k (some x)), gg⟩ rfl ⟨pqH_end hf gk, hp_dnE hd9 (fun i a1 a2 a3 => by show grK (V (gg k)) ≤ grK (V (gg i)); first | (have z8 := hch.2.2.2 i a1 a2 a3; have z9 := sg9.2.1; rw [gk]; omega) | (exfalso; omega)), hs9, (fun i hi => (va_upn (by omega)).trans (ho i hi))⟩ (hP.sub [0] rfl) (hD.sub [0] (by decide) rfl) hS (Nat.le_of_ble_eq_true rfl) (Nat.le_of_ble_eq_true rfl) dJ21_siftDownUsingComparator_92
      · have J61 : ∀ (ch : Nat), ((ch - 1) / 2 = k ∧ 0 < ch ∧ ch < n ∧ ∀ i, 0 < i → i < n → (i - 1) / 2 = k → grK (V (gg ch)) ≤ grK (V (gg i))) → ∀ (H : Heap) (locs : List Loc), va_P D vwCl [(e, .inl (dA 7, cap, .inr (.inr (.inr (.inr (f))))))] H → va_D A [(e, .inl (dA 7, cap, .inr (.inr (.inr (.inr (f))))))] → va_S A ss.heap H locs → ∀ ls : Array Slot, lv_has ls 9 [(0, .int (zI ((k : Nat) : Int))), (1, .ref (x)), (2, .ref (e)), (3, .int (zI ((n : Nat) : Int))), (4, .ref (cq)), (5, .int (zI ((hv_1 : Nat) : Int))), (6, .int (zI ((ch : Nat) : Int))), (7, .ref (gg ch))] → W pp l ee (zRmW 4 86 0 0) ss mm args below meth cd H locs 0 0 Q (F0 mm 61 ls []) := by
          intro ch hch H locs hP hD hS ls hl
          have mx9 := hV9 x (by rw [← gk]; exact hs9.1 k hk)
          have mc9 := hV9 (gg ch) (hs9.1 ch hch.2.2.1)
          have sg9 := gr_sign mx9.2 mc9.2
          refine lv_aload hx hb dJ21_siftDownUsingComparator_61 (lv_at hl 4 rfl) ?_
          refine lv_aload_n hx hb dJ21_siftDownUsingComparator_63 rfl (lv_at hl 1 rfl) ?_
          refine lv_aload hx hb dJ21_siftDownUsingComparator_64 (lv_at hl 7 rfl) ?_
          refine z_nF (n := 2) (As := [.ref (x), .ref (gg ch)]) (rest := []) (x := yCmp) C ((hV.pure hS).sub (fun q9 h9 => by simp at h9; rcases h9 with h9 | h9 <;> rw [h9]; exact mx9.1; exact mc9.1) (fun q9 h9 => by simp at h9; rw [h9]; exact hc9)) (k_X12_compare l D dA en (cq) (x) (gg ch) ((V x)) ((V (gg ch))) mx9.2 mc9.2) q1732 q1250 q1252 q148 q1254 (List.mem_of_getElem? (i := 2) rfl) 12 rfl (by decide +kernel) rfl ⟨Nat.le_of_ble_eq_true rfl, Nat.le_of_ble_eq_true rfl⟩ hl.1 (hP.sub [] rfl) ((hV.pure hS).2.cell hc9) rfl (Nat.le_of_ble_eq_true rfl) dJ21_siftDownUsingComparator_66 (Nat.zero_le _) (Nat.zero_le _) ?_
          refine z_nm (fun cx_2 e_cx_2 => ?_)
          refine z_if_gt (tgt := 77) C ⟨by omega, by omega⟩ dJ21_siftDownUsingComparator_71 (by decide) (fun c_71 => ?_) (fun c_71 => ?_)
          · have lt9 : grK (V (gg ch)) < grK (V (gg k)) := by rw [gk]; exact sg9.2.1.mp (by omega)
            refine lv_aload_n hx hb dJ21_siftDownUsingComparator_77 rfl (lv_at hl 2 rfl) ?_
            refine lv_iload_n hx hb dJ21_siftDownUsingComparator_78 rfl (lv_at hl 0 rfl) ?_
            refine lv_aload hx hb dJ21_siftDownUsingComparator_79 (lv_at hl 7 rfl) ?_
            refine z_aastO C hP hD hS 0 7 rfl (Cn := "java/lang/Integer") rfl ((hV.fz hS).icell mc9.1) (Or.inl (by decide)) (k) rfl (by omega) (by first | decide | omega) (ws' := [(e, .inl (dA 7, cap, .inr (.inr (.inr (.inr ((va_up f k (some (gg ch)))))))))]) rfl dJ21_siftDownUsingComparator_81 (fun H locs hP hD hS => ?_)
            refine lv_iload hx hb dJ21_siftDownUsingComparator_82 (lv_at hl 6 rfl) ?_
            refine lv_istore_n (lv' := [(0, .int (zI ((ch : Nat) : Int))), (1, .ref (x)), (2, .ref (e)), (3, .int (zI ((n : Nat) : Int))), (4, .ref (cq)), (5, .int (zI ((hv_1 : Nat) : Int))), (6, .int (zI ((ch : Nat) : Int))), (7, .ref (gg ch))]) hx hb dJ21_siftDownUsingComparator_84 rfl hl (by decide) rfl (fun ls hl => ?_)
            refine lv_goto (tgt := 5) hx hb dJ21_siftDownUsingComparator_85 (by decide) ?_
            exact ih5 (ch) ((va_up f k (some (gg ch)))) ((va_up (va_up gg k (gg ch)) ch x)) (by first | with_reducible assumption | omega | with_reducible rfl) va_upe (pqH_mv hf (by omega) (by omega)) (hp_dnS hd9 hch.1 hch.2.1 hch.2.2.1 hch.2.2.2 lt9 (by rw [va_upn (by omega), va_upe]) (by rw [va_upe, gk]) (fun i a1 a2 => by rw [va_upn a2, va_upn a1])) (hpS_swap hs9 hk hch.2.2.1 (by rw [va_upn (by omega), va_upe]) (by rw [va_upe, gk]) (fun i a1 a2 => by rw [va_upn a2, va_upn a1])) (fun i hi => (va_upn (by omega)).trans (ho i hi)) (by omega) H locs hP hD hS ls (lv_sub hl [0, 1, 2, 3, 4, 5] rfl)
          · refine lv_goto (tgt := 88) hx hb dJ21_siftDownUsingComparator_74 (by decide) ?_
            have mx9 := hV9 x (by rw [← gk]; exact hs9.1 k hk)
            refine lv_aload_n hx hb dJ21_siftDownUsingComparator_88 rfl (lv_at hl 2 rfl) ?_
            refine lv_iload_n hx hb dJ21_siftDownUsingComparator_89 rfl (lv_at hl 0 rfl) ?_
            refine lv_aload_n hx hb dJ21_siftDownUsingComparator_90 rfl (lv_at hl 1 rfl) ?_
            refine z_aastO C hP hD hS 0 7 rfl (Cn := "java/lang/Integer") rfl ((hV.fz hS).icell mx9.1) (Or.inl (by decide)) (k) rfl (by omega) (by first | decide | omega) (ws' := [(e, .inl (dA 7, cap, .inr (.inr (.inr (.inr ((va_up f k (some x))))))))]) rfl dJ21_siftDownUsingComparator_91 (fun H locs hP hD hS => ?_)
            exact z_vretG C hlk hr hQ ⟨(va_up f k (some x)), gg⟩ rfl ⟨pqH_end hf gk, hp_dnE hd9 (fun i a1 a2 a3 => by show grK (V (gg k)) ≤ grK (V (gg i)); first | (have z8 := hch.2.2.2 i a1 a2 a3; have z9 := sg9.2.1; rw [gk]; omega) | (exfalso; omega)), hs9, (fun i hi => (va_upn (by omega)).trans (ho i hi))⟩ (hP.sub [0] rfl) (hD.sub [0] (by decide) rfl) hS (Nat.le_of_ble_eq_true rfl) (Nat.le_of_ble_eq_true rfl) dJ21_siftDownUsingComparator_92
        have mx9 := hV9 x (by rw [← gk]; exact hs9.1 k hk)
        refine lv_iload_n hx hb dJ21_siftDownUsingComparator_11 rfl (lv_at hl 0 rfl) ?_
        refine z_iconst C dJ21_siftDownUsingComparator_12 ?_
        refine z_ishlN C (k) (1) rfl rfl (by omega) dJ21_siftDownUsingComparator_13 ?_
        refine z_iconst C dJ21_siftDownUsingComparator_14 ?_
        refine z_iaddN C ((k * 2 ^ 1)) (1) rfl rfl dJ21_siftDownUsingComparator_15 ?_
        refine z_nmN (fun cc_3 e_cc_3 => ?_)
        have hcc : cc_3 = 2 * k + 1 := by rw [e_cc_3]; omega
        have ml9 := hV9 (gg cc_3) (hs9.1 cc_3 (by omega))
        refine lv_istore (lv' := [(6, .int (zI ((cc_3 : Nat) : Int))), (0, .int (zI ((k : Nat) : Int))), (1, .ref (x)), (2, .ref (e)), (3, .int (zI ((n : Nat) : Int))), (4, .ref (cq)), (5, .int (zI ((hv_1 : Nat) : Int)))]) hx hb dJ21_siftDownUsingComparator_16 hl (by decide) rfl (fun ls hl => ?_)
        refine lv_aload_n hx hb dJ21_siftDownUsingComparator_18 rfl (lv_at hl 3 rfl) ?_
        refine lv_iload hx hb dJ21_siftDownUsingComparator_19 (lv_at hl 0 rfl) ?_
        refine z_aaldW C hP 0 7 rfl rfl (cc_3) rfl (by omega) (by first | decide | omega) dJ21_siftDownUsingComparator_21 ?_
        rw [hf cc_3 (by omega) (by omega)]
        refine lv_astore (lv' := [(7, .ref (gg cc_3)), (6, .int (zI ((cc_3 : Nat) : Int))), (0, .int (zI ((k : Nat) : Int))), (1, .ref (x)), (2, .ref (e)), (3, .int (zI ((n : Nat) : Int))), (4, .ref (cq)), (5, .int (zI ((hv_1 : Nat) : Int)))]) hx hb dJ21_siftDownUsingComparator_22 hl (by decide) rfl (fun ls hl => ?_)
        refine lv_iload hx hb dJ21_siftDownUsingComparator_24 (lv_at hl 1 rfl) ?_
        refine z_iconst C dJ21_siftDownUsingComparator_26 ?_
        refine z_iaddN C (cc_3) (1) rfl rfl dJ21_siftDownUsingComparator_27 ?_
        refine lv_istore (lv' := [(8, .int (zI (((cc_3 + 1) : Nat) : Int))), (7, .ref (gg cc_3)), (6, .int (zI ((cc_3 : Nat) : Int))), (0, .int (zI ((k : Nat) : Int))), (1, .ref (x)), (2, .ref (e)), (3, .int (zI ((n : Nat) : Int))), (4, .ref (cq)), (5, .int (zI ((hv_1 : Nat) : Int)))]) hx hb dJ21_siftDownUsingComparator_28 hl (by decide) rfl (fun ls hl => ?_)
        refine lv_iload hx hb dJ21_siftDownUsingComparator_30 (lv_at hl 0 rfl) ?_
        refine lv_iload_n hx hb dJ21_siftDownUsingComparator_32 rfl (lv_at hl 6 rfl) ?_
        refine z_icmp_ge (tgt := 61) C ⟨by omega, by omega⟩ ⟨by omega, by omega⟩ dJ21_siftDownUsingComparator_33 (by decide) (fun c_33 => ?_) (fun c_33 => ?_)
        · exact J61 (cc_3) (by first | exact ⟨by omega, by omega, by omega, fun i a1 a2 a3 => by rw [show i = cc_3 by omega]; exact Int.le_refl _⟩ | exact ⟨by omega, by omega, by omega, fun i a1 a2 a3 => by rcases (show i = cc_3 ∨ i = cc_3 + 1 by omega) with q | q <;> rw [q] <;> have z9 := sg8.2.1 <;> omega⟩) H locs hP hD hS ls (lv_sub hl [3, 4, 5, 6, 7, 8, 2, 1] rfl)
        · refine lv_aload hx hb dJ21_siftDownUsingComparator_36 (lv_at hl 7 rfl) ?_
          refine lv_aload hx hb dJ21_siftDownUsingComparator_38 (lv_at hl 1 rfl) ?_
          refine lv_aload_n hx hb dJ21_siftDownUsingComparator_40 rfl (lv_at hl 5 rfl) ?_
          refine lv_iload hx hb dJ21_siftDownUsingComparator_41 (lv_at hl 0 rfl) ?_
          refine z_aaldW C hP 0 7 rfl rfl ((cc_3 + 1)) rfl (by omega) (by first | decide | omega) dJ21_siftDownUsingComparator_43 ?_
          rw [hf (cc_3 + 1) (by omega) (by omega)]
          have mr9 := hV9 (gg (cc_3 + 1)) (hs9.1 (cc_3 + 1) (by omega))
          have sg8 := gr_sign ml9.2 mr9.2
          refine z_nF (n := 2) (As := [.ref (gg cc_3), .ref (gg (cc_3 + 1))]) (rest := []) (x := yCmp) C ((hV.pure hS).sub (fun q9 h9 => by simp at h9; rcases h9 with h9 | h9 <;> rw [h9]; exact ml9.1; exact mr9.1) (fun q9 h9 => by simp at h9; rw [h9]; exact hc9)) (k_X12_compare l D dA en (cq) (gg cc_3) (gg (cc_3 + 1)) ((V (gg cc_3))) ((V (gg (cc_3 + 1)))) ml9.2 mr9.2) q1732 q1250 q1252 q148 q1254 (List.mem_of_getElem? (i := 2) rfl) 12 rfl (by decide +kernel) rfl ⟨Nat.le_of_ble_eq_true rfl, Nat.le_of_ble_eq_true rfl⟩ hl.1 (hP.sub [] rfl) ((hV.pure hS).2.cell hc9) rfl (Nat.le_of_ble_eq_true rfl) dJ21_siftDownUsingComparator_44 (Nat.zero_le _) (Nat.zero_le _) ?_
          refine z_nm (fun cm_4 e_cm_4 => ?_)
          refine z_if_le (tgt := 61) C ⟨by omega, by omega⟩ dJ21_siftDownUsingComparator_49 (by decide) (fun c_49 => ?_) (fun c_49 => ?_)
          · exact J61 (cc_3) (by first | exact ⟨by omega, by omega, by omega, fun i a1 a2 a3 => by rw [show i = cc_3 by omega]; exact Int.le_refl _⟩ | exact ⟨by omega, by omega, by omega, fun i a1 a2 a3 => by rcases (show i = cc_3 ∨ i = cc_3 + 1 by omega) with q | q <;> rw [q] <;> have z9 := sg8.2.1 <;> omega⟩) H locs hP hD hS ls (lv_sub hl [3, 4, 5, 6, 7, 8, 2, 1] rfl)
          · refine lv_aload_n hx hb dJ21_siftDownUsingComparator_52 rfl (lv_at hl 5 rfl) ?_
            refine lv_iload hx hb dJ21_siftDownUsingComparator_53 (lv_at hl 0 rfl) ?_
            refine lv_dup hx hb dJ21_siftDownUsingComparator_55 rfl ?_
            refine lv_istore (lv' := [(6, .int (zI (((cc_3 + 1) : Nat) : Int))), (8, .int (zI (((cc_3 + 1) : Nat) : Int))), (7, .ref (gg cc_3)), (0, .int (zI ((k : Nat) : Int))), (1, .ref (x)), (2, .ref (e)), (3, .int (zI ((n : Nat) : Int))), (4, .ref (cq)), (5, .int (zI ((hv_1 : Nat) : Int)))]) hx hb dJ21_siftDownUsingComparator_56 hl (by decide) rfl (fun ls hl => ?_)
            refine z_aaldW C hP 0 7 rfl rfl ((cc_3 + 1)) rfl (by omega) (by first | decide | omega) dJ21_siftDownUsingComparator_58 ?_
            rw [hf (cc_3 + 1) (by omega) (by omega)]
            refine lv_astore (lv' := [(7, .ref (gg (cc_3 + 1))), (6, .int (zI (((cc_3 + 1) : Nat) : Int))), (8, .int (zI (((cc_3 + 1) : Nat) : Int))), (0, .int (zI ((k : Nat) : Int))), (1, .ref (x)), (2, .ref (e)), (3, .int (zI ((n : Nat) : Int))), (4, .ref (cq)), (5, .int (zI ((hv_1 : Nat) : Int)))]) hx hb dJ21_siftDownUsingComparator_59 hl (by decide) rfl (fun ls hl => ?_)
            exact J61 ((cc_3 + 1)) (by first | exact ⟨by omega, by omega, by omega, fun i a1 a2 a3 => by rw [show i = cc_3 by omega]; exact Int.le_refl _⟩ | exact ⟨by omega, by omega, by omega, fun i a1 a2 a3 => by rcases (show i = cc_3 ∨ i = cc_3 + 1 by omega) with q | q <;> rw [q] <;> have z9 := sg8.2.1 <;> omega⟩) H locs hP hD hS ls (lv_sub hl [3, 4, 5, 6, 7, 8, 1, 0] rfl)
  exact L5 ((n - k0) + 1) (k0) (f0) (gg) (by first | with_reducible assumption | omega | with_reducible rfl) gk hf hd9 hs9 (fun _ _ => rfl) (by omega) H locs hP hD hS ls (lv_sub hl [1, 2, 3, 4, 5, 0] rfl)
