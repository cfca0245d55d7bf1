/-! TreeMap: turns (printed by tools/s_tm2.py) -/
set_option maxHeartbeats 600000 in
set_option maxRecDepth 100000 in
theorem k_J4_rotateLeft (l : Launch) (D : va_G) (dA : Nat → ClassId) (B : Nat) (en : Nat → Nat → Nat) (p r : Nat) (a : Nat) (root : Option Nat) (sz mc : Int) (K : Nat → Int) (L : List Nat) (ke : Nat → Nat) (vl lf rt pa : Nat → Option Nat) (co : Nat → Bool) (hq : tmOk K L root lf rt pa) (hp : p ∈ L) (hpr : rt p = some r) : zH (S := Option Nat × (Nat → Option Nat) × (Nat → Option Nat) × (Nat → Option Nat)) l yJ4_rotateLeft cJ4_rotateLeft 3 (none) (zRmW 0 0 0 0) B en ([], []) D dA [.ref (a), .ref (p)] ([(a, .inr (13, [.null, .null, .null, va_rf (root), .int (zI (sz)), .int (zI (mc)), .null, .null, .null]))] ++ va_pl L (trE ke vl lf rt pa co)) (fun u : Option Nat × (Nat → Option Nat) × (Nat → Option Nat) × (Nat → Option Nat) => none) (fun u : Option Nat × (Nat → Option Nat) × (Nat → Option Nat) × (Nat → Option Nat) => tmOk K L u.1 u.2.1 u.2.2.1 u.2.2.2 ∧ u.2.1 r = some p ∧ u.2.2.2 p = some r ∧ u.2.2.2 r = pa p ∧ (∀ y, y ≠ p → y ≠ r → lf r ≠ some y → u.2.2.2 y = pa y) ∧ ∀ g, pa p = some g → lf g = some p → u.2.1 g = some r) (fun u : Option Nat × (Nat → Option Nat) × (Nat → Option Nat) × (Nat → Option Nat) => ([(a, .inr (13, [.null, .null, .null, va_rf (u.1), .int (zI (sz)), .int (zI (mc)), .null, .null, .null]))] ++ va_pl L (trE ke vl u.2.1 u.2.2.1 u.2.2.2 co))) := by
  refine zH.of (by decide +kernel) rfl ?_
  intro pp ee ss mm args below meth cd Q A C hr hlk hQ hA hV hin H locs hP hD hS ls hl
  have hx := C.1.1
  have hb := C.1.2.1
  have hl : lv_has ls 3 [(0, .ref (a)), (1, .ref (p))] := hl
  have hne := tm_neL hq hp hpr
  refine lv_aload_n hx hb dJ4_rotateLeft_0 rfl (lv_at hl 1 rfl) ?_
  refine lv_ifnull hx hb dJ4_rotateLeft_1 ?_
  refine lv_aload_n hx hb dJ4_rotateLeft_4 rfl (lv_at hl 1 rfl) ?_
  refine z_ert (X := [(a, .inr (13, [.null, .null, .null, va_rf (root), .int (zI (sz)), .int (zI (mc)), .null, .null, .null]))]) C hP (by assumption) q1285 dJ4_rotateLeft_5 ?_
  rw [hpr]
  refine lv_astore_n (lv' := [(2, .ref (r)), (0, .ref (a)), (1, .ref (p))]) hx hb dJ4_rotateLeft_8 rfl hl (by decide) rfl (fun ls hl => ?_)
  refine lv_aload_n hx hb dJ4_rotateLeft_9 rfl (lv_at hl 2 rfl) ?_
  refine lv_aload_n hx hb dJ4_rotateLeft_10 rfl (lv_at hl 0 rfl) ?_
  refine z_elf (X := [(a, .inr (13, [.null, .null, .null, va_rf (root), .int (zI (sz)), .int (zI (mc)), .null, .null, .null]))]) C hP hne.1 q1284 dJ4_rotateLeft_11 ?_
  refine z_eprt (X := [(a, .inr (13, [.null, .null, .null, va_rf (root), .int (zI (sz)), .int (zI (mc)), .null, .null, .null]))]) C hP hD hS (by assumption) (v9 := (lf r)) q1285 dJ4_rotateLeft_14 (fun H locs hP hD hS => ?_)
  refine lv_aload_n hx hb dJ4_rotateLeft_17 rfl (lv_at hl 0 rfl) ?_
  refine z_elf (X := [(a, .inr (13, [.null, .null, .null, va_rf (root), .int (zI (sz)), .int (zI (mc)), .null, .null, .null]))]) C hP hne.1 q1284 dJ4_rotateLeft_18 ?_
  refine z_ifnull (tgt := 32) C dJ4_rotateLeft_21 (by decide) (fun c_21 => ?_) (fun c_21 => ?_)
  · skip
    refine lv_aload_n hx hb dJ4_rotateLeft_32 rfl (lv_at hl 0 rfl) ?_
    refine lv_aload_n hx hb dJ4_rotateLeft_33 rfl (lv_at hl 2 rfl) ?_
    refine z_epa (X := [(a, .inr (13, [.null, .null, .null, va_rf (root), .int (zI (sz)), .int (zI (mc)), .null, .null, .null]))]) C hP (by assumption) q1287 dJ4_rotateLeft_34 ?_
    refine z_eppa (X := [(a, .inr (13, [.null, .null, .null, va_rf (root), .int (zI (sz)), .int (zI (mc)), .null, .null, .null]))]) C hP hD hS hne.1 (v9 := (pa p)) q1287 dJ4_rotateLeft_37 (fun H locs hP hD hS => ?_)
    refine lv_aload_n hx hb dJ4_rotateLeft_40 rfl (lv_at hl 2 rfl) ?_
    refine z_epa (X := [(a, .inr (13, [.null, .null, .null, va_rf (root), .int (zI (sz)), .int (zI (mc)), .null, .null, .null]))]) C hP (by assumption) q1287 dJ4_rotateLeft_41 ?_
    rw [show (va_up pa r (pa p)) p = pa p from by simp [va_up, hne.2.1.symm]]
    refine z_ifnonnull (tgt := 55) C dJ4_rotateLeft_44 (by decide) (fun c_44 => ?_) (fun c_44 => ?_)
    · obtain ⟨y_44_1, hy_44_1⟩ := Option.ne_none_iff_exists'.mp c_44
      refine lv_aload_n hx hb dJ4_rotateLeft_55 rfl (lv_at hl 2 rfl) ?_
      refine z_epa (X := [(a, .inr (13, [.null, .null, .null, va_rf (root), .int (zI (sz)), .int (zI (mc)), .null, .null, .null]))]) C hP (by assumption) q1287 dJ4_rotateLeft_56 ?_
      rw [show (va_up pa r (pa p)) p = pa p from by simp [va_up, hne.2.1.symm]]
      rw [hy_44_1]
      refine z_elf (X := [(a, .inr (13, [.null, .null, .null, va_rf (root), .int (zI (sz)), .int (zI (mc)), .null, .null, .null]))]) C hP (tm_pa hq hp hy_44_1).1 q1284 dJ4_rotateLeft_59 ?_
      refine lv_aload_n hx hb dJ4_rotateLeft_62 rfl (lv_at hl 2 rfl) ?_
      refine lv_acmp_ne (rx := lf y_44_1) (ry := some (p)) (tgt := 77) hx hb dJ4_rotateLeft_63 (by decide) (fun c_63 => ?_) (fun c_63 => ?_)
      · refine lv_aload_n hx hb dJ4_rotateLeft_77 rfl (lv_at hl 2 rfl) ?_
        refine z_epa (X := [(a, .inr (13, [.null, .null, .null, va_rf (root), .int (zI (sz)), .int (zI (mc)), .null, .null, .null]))]) C hP (by assumption) q1287 dJ4_rotateLeft_78 ?_
        rw [show (va_up pa r (pa p)) p = pa p from by simp [va_up, hne.2.1.symm]]
        rw [hy_44_1]
        refine lv_aload_n hx hb dJ4_rotateLeft_81 rfl (lv_at hl 0 rfl) ?_
        refine z_eprt (X := [(a, .inr (13, [.null, .null, .null, va_rf (root), .int (zI (sz)), .int (zI (mc)), .null, .null, .null]))]) C hP hD hS (tm_pa hq hp hy_44_1).1 (v9 := (some r)) q1285 dJ4_rotateLeft_82 (fun H locs hP hD hS => ?_)
        refine lv_aload_n hx hb dJ4_rotateLeft_85 rfl (lv_at hl 0 rfl) ?_
        refine lv_aload_n hx hb dJ4_rotateLeft_86 rfl (lv_at hl 2 rfl) ?_
        refine z_eplf (X := [(a, .inr (13, [.null, .null, .null, va_rf (root), .int (zI (sz)), .int (zI (mc)), .null, .null, .null]))]) C hP hD hS hne.1 (v9 := (some p)) q1284 dJ4_rotateLeft_87 (fun H locs hP hD hS => ?_)
        refine lv_aload_n hx hb dJ4_rotateLeft_90 rfl (lv_at hl 2 rfl) ?_
        refine lv_aload_n hx hb dJ4_rotateLeft_91 rfl (lv_at hl 0 rfl) ?_
        refine z_eppa (X := [(a, .inr (13, [.null, .null, .null, va_rf (root), .int (zI (sz)), .int (zI (mc)), .null, .null, .null]))]) C hP hD hS (by assumption) (v9 := (some r)) q1287 dJ4_rotateLeft_92 (fun H locs hP hD hS => ?_)
        exact z_vretG C hlk hr hQ ⟨root, (va_up lf r (some p)), (va_up (va_up rt p (lf r)) y_44_1 (some r)), (va_up (va_up pa r (pa p)) p (some r))⟩ rfl ⟨tm_rl hq hp hpr (PA := pa) (fun c hc => by rw [c_21] at hc; cases hc) (fun x _ => rfl) (Or.inr (Or.inr ⟨y_44_1, hy_44_1, c_63, rfl, rfl, rfl⟩)), (by simp [va_up]), (by simp [va_up]), (by simp [va_up, hne.2.1]), (fun y9 e1 e2 e3 => by simp [va_up, e1, e2]), (fun g e1 e2 => by obtain rfl := Option.some.inj (e1.symm.trans hy_44_1); exact absurd e2 c_63)⟩ hP hD hS (Nat.le_of_ble_eq_true rfl) (Nat.le_of_ble_eq_true rfl) dJ4_rotateLeft_95
      · refine lv_aload_n hx hb dJ4_rotateLeft_66 rfl (lv_at hl 2 rfl) ?_
        refine z_epa (X := [(a, .inr (13, [.null, .null, .null, va_rf (root), .int (zI (sz)), .int (zI (mc)), .null, .null, .null]))]) C hP (by assumption) q1287 dJ4_rotateLeft_67 ?_
        rw [show (va_up pa r (pa p)) p = pa p from by simp [va_up, hne.2.1.symm]]
        rw [hy_44_1]
        refine lv_aload_n hx hb dJ4_rotateLeft_70 rfl (lv_at hl 0 rfl) ?_
        refine z_eplf (X := [(a, .inr (13, [.null, .null, .null, va_rf (root), .int (zI (sz)), .int (zI (mc)), .null, .null, .null]))]) C hP hD hS (tm_pa hq hp hy_44_1).1 (v9 := (some r)) q1284 dJ4_rotateLeft_71 (fun H locs hP hD hS => ?_)
        refine lv_goto (tgt := 85) hx hb dJ4_rotateLeft_74 (by decide) ?_
        refine lv_aload_n hx hb dJ4_rotateLeft_85 rfl (lv_at hl 0 rfl) ?_
        refine lv_aload_n hx hb dJ4_rotateLeft_86 rfl (lv_at hl 2 rfl) ?_
        refine z_eplf (X := [(a, .inr (13, [.null, .null, .null, va_rf (root), .int (zI (sz)), .int (zI (mc)), .null, .null, .null]))]) C hP hD hS hne.1 (v9 := (some p)) q1284 dJ4_rotateLeft_87 (fun H locs hP hD hS => ?_)
        refine lv_aload_n hx hb dJ4_rotateLeft_90 rfl (lv_at hl 2 rfl) ?_
        refine lv_aload_n hx hb dJ4_rotateLeft_91 rfl (lv_at hl 0 rfl) ?_
        refine z_eppa (X := [(a, .inr (13, [.null, .null, .null, va_rf (root), .int (zI (sz)), .int (zI (mc)), .null, .null, .null]))]) C hP hD hS (by assumption) (v9 := (some r)) q1287 dJ4_rotateLeft_92 (fun H locs hP hD hS => ?_)
        exact z_vretG C hlk hr hQ ⟨root, (va_up (va_up lf y_44_1 (some r)) r (some p)), (va_up rt p (lf r)), (va_up (va_up pa r (pa p)) p (some r))⟩ rfl ⟨tm_rl hq hp hpr (PA := pa) (fun c hc => by rw [c_21] at hc; cases hc) (fun x _ => rfl) (Or.inr (Or.inl ⟨y_44_1, hy_44_1, c_63, rfl, rfl, rfl⟩)), (by simp [va_up]), (by simp [va_up]), (by simp [va_up, hne.2.1]), (fun y9 e1 e2 e3 => by simp [va_up, e1, e2]), (fun g e1 e2 => by obtain rfl := Option.some.inj (e1.symm.trans hy_44_1); by_cases z : g = r <;> simp [va_up, z]; exact absurd (z ▸ e2) (fun w => (hne.2.2 p w).2.1 rfl))⟩ hP hD hS (Nat.le_of_ble_eq_true rfl) (Nat.le_of_ble_eq_true rfl) dJ4_rotateLeft_95
    · skip
      refine lv_aload_n hx hb dJ4_rotateLeft_47 rfl (lv_at hl 1 rfl) ?_
      refine lv_aload_n hx hb dJ4_rotateLeft_48 rfl (lv_at hl 0 rfl) ?_
      refine z_put C hP hD hS 0 rfl rfl in_J4 tyJ4_ok nmJ4 3 (by decide) q392 rfl (v := .ref (r)) rfl rfl (Nat.le_of_ble_eq_true rfl) (ws' := ([(a, .inr (13, [.null, .null, .null, .ref (r), .int (zI (sz)), .int (zI (mc)), .null, .null, .null]))] ++ va_pl L (trE ke vl lf (va_up rt p (lf r)) (va_up pa r (pa p)) co))) rfl dJ4_rotateLeft_49 (fun H locs hP hD hS => ?_)
      refine lv_goto (tgt := 85) hx hb dJ4_rotateLeft_52 (by decide) ?_
      refine lv_aload_n hx hb dJ4_rotateLeft_85 rfl (lv_at hl 0 rfl) ?_
      refine lv_aload_n hx hb dJ4_rotateLeft_86 rfl (lv_at hl 2 rfl) ?_
      refine z_eplf (X := [(a, .inr (13, [.null, .null, .null, .ref (r), .int (zI (sz)), .int (zI (mc)), .null, .null, .null]))]) C hP hD hS hne.1 (v9 := (some p)) q1284 dJ4_rotateLeft_87 (fun H locs hP hD hS => ?_)
      refine lv_aload_n hx hb dJ4_rotateLeft_90 rfl (lv_at hl 2 rfl) ?_
      refine lv_aload_n hx hb dJ4_rotateLeft_91 rfl (lv_at hl 0 rfl) ?_
      refine z_eppa (X := [(a, .inr (13, [.null, .null, .null, .ref (r), .int (zI (sz)), .int (zI (mc)), .null, .null, .null]))]) C hP hD hS (by assumption) (v9 := (some r)) q1287 dJ4_rotateLeft_92 (fun H locs hP hD hS => ?_)
      exact z_vretG C hlk hr hQ ⟨some (r), (va_up lf r (some p)), (va_up rt p (lf r)), (va_up (va_up pa r (pa p)) p (some r))⟩ rfl ⟨tm_rl hq hp hpr (PA := pa) (fun c hc => by rw [c_21] at hc; cases hc) (fun x _ => rfl) (Or.inl ⟨c_44, rfl, rfl, rfl⟩), (by simp [va_up]), (by simp [va_up]), (by simp [va_up, hne.2.1]), (fun y9 e1 e2 e3 => by simp [va_up, e1, e2]), (fun g e1 e2 => by rw [c_44] at e1; cases e1)⟩ hP hD hS (Nat.le_of_ble_eq_true rfl) (Nat.le_of_ble_eq_true rfl) dJ4_rotateLeft_95
  · obtain ⟨y_21_2, hy_21_2⟩ := Option.ne_none_iff_exists'.mp c_21
    refine lv_aload_n hx hb dJ4_rotateLeft_24 rfl (lv_at hl 0 rfl) ?_
    refine z_elf (X := [(a, .inr (13, [.null, .null, .null, va_rf (root), .int (zI (sz)), .int (zI (mc)), .null, .null, .null]))]) C hP hne.1 q1284 dJ4_rotateLeft_25 ?_
    rw [hy_21_2]
    refine lv_aload_n hx hb dJ4_rotateLeft_28 rfl (lv_at hl 2 rfl) ?_
    refine z_eppa (X := [(a, .inr (13, [.null, .null, .null, va_rf (root), .int (zI (sz)), .int (zI (mc)), .null, .null, .null]))]) C hP hD hS (hne.2.2 _ hy_21_2).1 (v9 := (some p)) q1287 dJ4_rotateLeft_29 (fun H locs hP hD hS => ?_)
    refine lv_aload_n hx hb dJ4_rotateLeft_32 rfl (lv_at hl 0 rfl) ?_
    refine lv_aload_n hx hb dJ4_rotateLeft_33 rfl (lv_at hl 2 rfl) ?_
    refine z_epa (X := [(a, .inr (13, [.null, .null, .null, va_rf (root), .int (zI (sz)), .int (zI (mc)), .null, .null, .null]))]) C hP (by assumption) q1287 dJ4_rotateLeft_34 ?_
    rw [show (va_up pa y_21_2 (some p)) p = pa p from by simp [va_up, hne.2.1.symm, (hne.2.2 _ hy_21_2).2.1.symm]]
    refine z_eppa (X := [(a, .inr (13, [.null, .null, .null, va_rf (root), .int (zI (sz)), .int (zI (mc)), .null, .null, .null]))]) C hP hD hS hne.1 (v9 := (pa p)) q1287 dJ4_rotateLeft_37 (fun H locs hP hD hS => ?_)
    refine lv_aload_n hx hb dJ4_rotateLeft_40 rfl (lv_at hl 2 rfl) ?_
    refine z_epa (X := [(a, .inr (13, [.null, .null, .null, va_rf (root), .int (zI (sz)), .int (zI (mc)), .null, .null, .null]))]) C hP (by assumption) q1287 dJ4_rotateLeft_41 ?_
    rw [show (va_up (va_up pa y_21_2 (some p)) r (pa p)) p = pa p from by simp [va_up, hne.2.1.symm, (hne.2.2 _ hy_21_2).2.1.symm]]
    refine z_ifnonnull (tgt := 55) C dJ4_rotateLeft_44 (by decide) (fun c_44 => ?_) (fun c_44 => ?_)
    · obtain ⟨y_44_3, hy_44_3⟩ := Option.ne_none_iff_exists'.mp c_44
      refine lv_aload_n hx hb dJ4_rotateLeft_55 rfl (lv_at hl 2 rfl) ?_
      refine z_epa (X := [(a, .inr (13, [.null, .null, .null, va_rf (root), .int (zI (sz)), .int (zI (mc)), .null, .null, .null]))]) C hP (by assumption) q1287 dJ4_rotateLeft_56 ?_
      rw [show (va_up (va_up pa y_21_2 (some p)) r (pa p)) p = pa p from by simp [va_up, hne.2.1.symm, (hne.2.2 _ hy_21_2).2.1.symm]]
      rw [hy_44_3]
      refine z_elf (X := [(a, .inr (13, [.null, .null, .null, va_rf (root), .int (zI (sz)), .int (zI (mc)), .null, .null, .null]))]) C hP (tm_pa hq hp hy_44_3).1 q1284 dJ4_rotateLeft_59 ?_
      refine lv_aload_n hx hb dJ4_rotateLeft_62 rfl (lv_at hl 2 rfl) ?_
      refine lv_acmp_ne (rx := lf y_44_3) (ry := some (p)) (tgt := 77) hx hb dJ4_rotateLeft_63 (by decide) (fun c_63 => ?_) (fun c_63 => ?_)
      · refine lv_aload_n hx hb dJ4_rotateLeft_77 rfl (lv_at hl 2 rfl) ?_
        refine z_epa (X := [(a, .inr (13, [.null, .null, .null, va_rf (root), .int (zI (sz)), .int (zI (mc)), .null, .null, .null]))]) C hP (by assumption) q1287 dJ4_rotateLeft_78 ?_
        rw [show (va_up (va_up pa y_21_2 (some p)) r (pa p)) p = pa p from by simp [va_up, hne.2.1.symm, (hne.2.2 _ hy_21_2).2.1.symm]]
        rw [hy_44_3]
        refine lv_aload_n hx hb dJ4_rotateLeft_81 rfl (lv_at hl 0 rfl) ?_
        refine z_eprt (X := [(a, .inr (13, [.null, .null, .null, va_rf (root), .int (zI (sz)), .int (zI (mc)), .null, .null, .null]))]) C hP hD hS (tm_pa hq hp hy_44_3).1 (v9 := (some r)) q1285 dJ4_rotateLeft_82 (fun H locs hP hD hS => ?_)
        refine lv_aload_n hx hb dJ4_rotateLeft_85 rfl (lv_at hl 0 rfl) ?_
        refine lv_aload_n hx hb dJ4_rotateLeft_86 rfl (lv_at hl 2 rfl) ?_
        refine z_eplf (X := [(a, .inr (13, [.null, .null, .null, va_rf (root), .int (zI (sz)), .int (zI (mc)), .null, .null, .null]))]) C hP hD hS hne.1 (v9 := (some p)) q1284 dJ4_rotateLeft_87 (fun H locs hP hD hS => ?_)
        refine lv_aload_n hx hb dJ4_rotateLeft_90 rfl (lv_at hl 2 rfl) ?_
        refine lv_aload_n hx hb dJ4_rotateLeft_91 rfl (lv_at hl 0 rfl) ?_
        refine z_eppa (X := [(a, .inr (13, [.null, .null, .null, va_rf (root), .int (zI (sz)), .int (zI (mc)), .null, .null, .null]))]) C hP hD hS (by assumption) (v9 := (some r)) q1287 dJ4_rotateLeft_92 (fun H locs hP hD hS => ?_)
        exact z_vretG C hlk hr hQ ⟨root, (va_up lf r (some p)), (va_up (va_up rt p (lf r)) y_44_3 (some r)), (va_up (va_up (va_up pa y_21_2 (some p)) r (pa p)) p (some r))⟩ rfl ⟨tm_rl hq hp hpr (PA := (va_up pa y_21_2 (some p))) (fun c hc => by rw [Option.some.inj (hc.symm.trans hy_21_2), va_upe]) (fun x hx => va_upn (fun z => hx (by rw [z]; exact hy_21_2))) (Or.inr (Or.inr ⟨y_44_3, hy_44_3, c_63, rfl, rfl, rfl⟩)), (by simp [va_up]), (by simp [va_up]), (by simp [va_up, hne.2.1]), (fun y9 e1 e2 e3 => by simp [va_up, e1, e2, (show y9 ≠ y_21_2 from fun z => e3 (by rw [z]; exact hy_21_2))]), (fun g e1 e2 => by obtain rfl := Option.some.inj (e1.symm.trans hy_44_3); exact absurd e2 c_63)⟩ hP hD hS (Nat.le_of_ble_eq_true rfl) (Nat.le_of_ble_eq_true rfl) dJ4_rotateLeft_95
      · refine lv_aload_n hx hb dJ4_rotateLeft_66 rfl (lv_at hl 2 rfl) ?_
        refine z_epa (X := [(a, .inr (13, [.null, .null, .null, va_rf (root), .int (zI (sz)), .int (zI (mc)), .null, .null, .null]))]) C hP (by assumption) q1287 dJ4_rotateLeft_67 ?_
        rw [show (va_up (va_up pa y_21_2 (some p)) r (pa p)) p = pa p from by simp [va_up, hne.2.1.symm, (hne.2.2 _ hy_21_2).2.1.symm]]
        rw [hy_44_3]
        refine lv_aload_n hx hb dJ4_rotateLeft_70 rfl (lv_at hl 0 rfl) ?_
        refine z_eplf (X := [(a, .inr (13, [.null, .null, .null, va_rf (root), .int (zI (sz)), .int (zI (mc)), .null, .null, .null]))]) C hP hD hS (tm_pa hq hp hy_44_3).1 (v9 := (some r)) q1284 dJ4_rotateLeft_71 (fun H locs hP hD hS => ?_)
        refine lv_goto (tgt := 85) hx hb dJ4_rotateLeft_74 (by decide) ?_
        refine lv_aload_n hx hb dJ4_rotateLeft_85 rfl (lv_at hl 0 rfl) ?_
        refine lv_aload_n hx hb dJ4_rotateLeft_86 rfl (lv_at hl 2 rfl) ?_
        refine z_eplf (X := [(a, .inr (13, [.null, .null, .null, va_rf (root), .int (zI (sz)), .int (zI (mc)), .null, .null, .null]))]) C hP hD hS hne.1 (v9 := (some p)) q1284 dJ4_rotateLeft_87 (fun H locs hP hD hS => ?_)
        refine lv_aload_n hx hb dJ4_rotateLeft_90 rfl (lv_at hl 2 rfl) ?_
        refine lv_aload_n hx hb dJ4_rotateLeft_91 rfl (lv_at hl 0 rfl) ?_
        refine z_eppa (X := [(a, .inr (13, [.null, .null, .null, va_rf (root), .int (zI (sz)), .int (zI (mc)), .null, .null, .null]))]) C hP hD hS (by assumption) (v9 := (some r)) q1287 dJ4_rotateLeft_92 (fun H locs hP hD hS => ?_)
        exact z_vretG C hlk hr hQ ⟨root, (va_up (va_up lf y_44_3 (some r)) r (some p)), (va_up rt p (lf r)), (va_up (va_up (va_up pa y_21_2 (some p)) r (pa p)) p (some r))⟩ rfl ⟨tm_rl hq hp hpr (PA := (va_up pa y_21_2 (some p))) (fun c hc => by rw [Option.some.inj (hc.symm.trans hy_21_2), va_upe]) (fun x hx => va_upn (fun z => hx (by rw [z]; exact hy_21_2))) (Or.inr (Or.inl ⟨y_44_3, hy_44_3, c_63, rfl, rfl, rfl⟩)), (by simp [va_up]), (by simp [va_up]), (by simp [va_up, hne.2.1]), (fun y9 e1 e2 e3 => by simp [va_up, e1, e2, (show y9 ≠ y_21_2 from fun z => e3 (by rw [z]; exact hy_21_2))]), (fun g e1 e2 => by obtain rfl := Option.some.inj (e1.symm.trans hy_44_3); by_cases z : g = r <;> simp [va_up, z]; exact absurd (z ▸ e2) (fun w => (hne.2.2 p w).2.1 rfl))⟩ hP hD hS (Nat.le_of_ble_eq_true rfl) (Nat.le_of_ble_eq_true rfl) dJ4_rotateLeft_95
    · skip
      refine lv_aload_n hx hb dJ4_rotateLeft_47 rfl (lv_at hl 1 rfl) ?_
      refine lv_aload_n hx hb dJ4_rotateLeft_48 rfl (lv_at hl 0 rfl) ?_
      refine z_put C hP hD hS 0 rfl rfl in_J4 tyJ4_ok nmJ4 3 (by decide) q392 rfl (v := .ref (r)) rfl rfl (Nat.le_of_ble_eq_true rfl) (ws' := ([(a, .inr (13, [.null, .null, .null, .ref (r), .int (zI (sz)), .int (zI (mc)), .null, .null, .null]))] ++ va_pl L (trE ke vl lf (va_up rt p (lf r)) (va_up (va_up pa y_21_2 (some p)) r (pa p)) co))) rfl dJ4_rotateLeft_49 (fun H locs hP hD hS => ?_)
      refine lv_goto (tgt := 85) hx hb dJ4_rotateLeft_52 (by decide) ?_
      refine lv_aload_n hx hb dJ4_rotateLeft_85 rfl (lv_at hl 0 rfl) ?_
      refine lv_aload_n hx hb dJ4_rotateLeft_86 rfl (lv_at hl 2 rfl) ?_
      refine z_eplf (X := [(a, .inr (13, [.null, .null, .null, .ref (r), .int (zI (sz)), .int (zI (mc)), .null, .null, .null]))]) C hP hD hS hne.1 (v9 := (some p)) q1284 dJ4_rotateLeft_87 (fun H locs hP hD hS => ?_)
      refine lv_aload_n hx hb dJ4_rotateLeft_90 rfl (lv_at hl 2 rfl) ?_
      refine lv_aload_n hx hb dJ4_rotateLeft_91 rfl (lv_at hl 0 rfl) ?_
      refine z_eppa (X := [(a, .inr (13, [.null, .null, .null, .ref (r), .int (zI (sz)), .int (zI (mc)), .null, .null, .null]))]) C hP hD hS (by assumption) (v9 := (some r)) q1287 dJ4_rotateLeft_92 (fun H locs hP hD hS => ?_)
      exact z_vretG C hlk hr hQ ⟨some (r), (va_up lf r (some p)), (va_up rt p (lf r)), (va_up (va_up (va_up pa y_21_2 (some p)) r (pa p)) p (some r))⟩ rfl ⟨tm_rl hq hp hpr (PA := (va_up pa y_21_2 (some p))) (fun c hc => by rw [Option.some.inj (hc.symm.trans hy_21_2), va_upe]) (fun x hx => va_upn (fun z => hx (by rw [z]; exact hy_21_2))) (Or.inl ⟨c_44, rfl, rfl, rfl⟩), (by simp [va_up]), (by simp [va_up]), (by simp [va_up, hne.2.1]), (fun y9 e1 e2 e3 => by simp [va_up, e1, e2, (show y9 ≠ y_21_2 from fun z => e3 (by rw [z]; exact hy_21_2))]), (fun g e1 e2 => by rw [c_44] at e1; cases e1)⟩ hP hD hS (Nat.le_of_ble_eq_true rfl) (Nat.le_of_ble_eq_true rfl) dJ4_rotateLeft_95

set_option maxHeartbeats 600000 in
set_option maxRecDepth 100000 in
theorem k_J4_rotateRight (l : Launch) (D : va_G) (dA : Nat → ClassId) (B : Nat) (en : Nat → Nat → Nat) (p r : Nat) (a : Nat) (root : Option Nat) (sz mc : Int) (K : Nat → Int) (L : List Nat) (ke : Nat → Nat) (vl lf rt pa : Nat → Option Nat) (co : Nat → Bool) (hq : tmOk K L root lf rt pa) (hp : p ∈ L) (hpr : lf p = some r) : zH (S := Option Nat × (Nat → Option Nat) × (Nat → Option Nat) × (Nat → Option Nat)) l yJ4_rotateRight cJ4_rotateRight 3 (none) (zRmW 0 0 0 0) B en ([], []) D dA [.ref (a), .ref (p)] ([(a, .inr (13, [.null, .null, .null, va_rf (root), .int (zI (sz)), .int (zI (mc)), .null, .null, .null]))] ++ va_pl L (trE ke vl lf rt pa co)) (fun u : Option Nat × (Nat → Option Nat) × (Nat → Option Nat) × (Nat → Option Nat) => none) (fun u : Option Nat × (Nat → Option Nat) × (Nat → Option Nat) × (Nat → Option Nat) => tmOk K L u.1 u.2.1 u.2.2.1 u.2.2.2 ∧ u.2.2.1 r = some p ∧ u.2.2.2 p = some r ∧ u.2.2.2 r = pa p ∧ (∀ y, y ≠ p → y ≠ r → rt r ≠ some y → u.2.2.2 y = pa y) ∧ ∀ g, pa p = some g → rt g = some p → u.2.2.1 g = some r) (fun u : Option Nat × (Nat → Option Nat) × (Nat → Option Nat) × (Nat → Option Nat) => ([(a, .inr (13, [.null, .null, .null, va_rf (u.1), .int (zI (sz)), .int (zI (mc)), .null, .null, .null]))] ++ va_pl L (trE ke vl u.2.1 u.2.2.1 u.2.2.2 co))) := by
  refine zH.of (by decide +kernel) rfl ?_
  intro pp ee ss mm args below meth cd Q A C hr hlk hQ hA hV hin H locs hP hD hS ls hl
  have hx := C.1.1
  have hb := C.1.2.1
  have hl : lv_has ls 3 [(0, .ref (a)), (1, .ref (p))] := hl
  have hne := tm_neR hq hp hpr
  refine lv_aload_n hx hb dJ4_rotateRight_0 rfl (lv_at hl 1 rfl) ?_
  refine lv_ifnull hx hb dJ4_rotateRight_1 ?_
  refine lv_aload_n hx hb dJ4_rotateRight_4 rfl (lv_at hl 1 rfl) ?_
  refine z_elf (X := [(a, .inr (13, [.null, .null, .null, va_rf (root), .int (zI (sz)), .int (zI (mc)), .null, .null, .null]))]) C hP (by assumption) q1284 dJ4_rotateRight_5 ?_
  rw [hpr]
  refine lv_astore_n (lv' := [(2, .ref (r)), (0, .ref (a)), (1, .ref (p))]) hx hb dJ4_rotateRight_8 rfl hl (by decide) rfl (fun ls hl => ?_)
  refine lv_aload_n hx hb dJ4_rotateRight_9 rfl (lv_at hl 2 rfl) ?_
  refine lv_aload_n hx hb dJ4_rotateRight_10 rfl (lv_at hl 0 rfl) ?_
  refine z_ert (X := [(a, .inr (13, [.null, .null, .null, va_rf (root), .int (zI (sz)), .int (zI (mc)), .null, .null, .null]))]) C hP hne.1 q1285 dJ4_rotateRight_11 ?_
  refine z_eplf (X := [(a, .inr (13, [.null, .null, .null, va_rf (root), .int (zI (sz)), .int (zI (mc)), .null, .null, .null]))]) C hP hD hS (by assumption) (v9 := (rt r)) q1284 dJ4_rotateRight_14 (fun H locs hP hD hS => ?_)
  refine lv_aload_n hx hb dJ4_rotateRight_17 rfl (lv_at hl 0 rfl) ?_
  refine z_ert (X := [(a, .inr (13, [.null, .null, .null, va_rf (root), .int (zI (sz)), .int (zI (mc)), .null, .null, .null]))]) C hP hne.1 q1285 dJ4_rotateRight_18 ?_
  refine z_ifnull (tgt := 32) C dJ4_rotateRight_21 (by decide) (fun c_21 => ?_) (fun c_21 => ?_)
  · skip
    refine lv_aload_n hx hb dJ4_rotateRight_32 rfl (lv_at hl 0 rfl) ?_
    refine lv_aload_n hx hb dJ4_rotateRight_33 rfl (lv_at hl 2 rfl) ?_
    refine z_epa (X := [(a, .inr (13, [.null, .null, .null, va_rf (root), .int (zI (sz)), .int (zI (mc)), .null, .null, .null]))]) C hP (by assumption) q1287 dJ4_rotateRight_34 ?_
    refine z_eppa (X := [(a, .inr (13, [.null, .null, .null, va_rf (root), .int (zI (sz)), .int (zI (mc)), .null, .null, .null]))]) C hP hD hS hne.1 (v9 := (pa p)) q1287 dJ4_rotateRight_37 (fun H locs hP hD hS => ?_)
    refine lv_aload_n hx hb dJ4_rotateRight_40 rfl (lv_at hl 2 rfl) ?_
    refine z_epa (X := [(a, .inr (13, [.null, .null, .null, va_rf (root), .int (zI (sz)), .int (zI (mc)), .null, .null, .null]))]) C hP (by assumption) q1287 dJ4_rotateRight_41 ?_
    rw [show (va_up pa r (pa p)) p = pa p from by simp [va_up, hne.2.1.symm]]
    refine z_ifnonnull (tgt := 55) C dJ4_rotateRight_44 (by decide) (fun c_44 => ?_) (fun c_44 => ?_)
    · obtain ⟨y_44_1, hy_44_1⟩ := Option.ne_none_iff_exists'.mp c_44
      refine lv_aload_n hx hb dJ4_rotateRight_55 rfl (lv_at hl 2 rfl) ?_
      refine z_epa (X := [(a, .inr (13, [.null, .null, .null, va_rf (root), .int (zI (sz)), .int (zI (mc)), .null, .null, .null]))]) C hP (by assumption) q1287 dJ4_rotateRight_56 ?_
      rw [show (va_up pa r (pa p)) p = pa p from by simp [va_up, hne.2.1.symm]]
      rw [hy_44_1]
      refine z_ert (X := [(a, .inr (13, [.null, .null, .null, va_rf (root), .int (zI (sz)), .int (zI (mc)), .null, .null, .null]))]) C hP (tm_pa hq hp hy_44_1).1 q1285 dJ4_rotateRight_59 ?_
      refine lv_aload_n hx hb dJ4_rotateRight_62 rfl (lv_at hl 2 rfl) ?_
      refine lv_acmp_ne (rx := rt y_44_1) (ry := some (p)) (tgt := 77) hx hb dJ4_rotateRight_63 (by decide) (fun c_63 => ?_) (fun c_63 => ?_)
      · refine lv_aload_n hx hb dJ4_rotateRight_77 rfl (lv_at hl 2 rfl) ?_
        refine z_epa (X := [(a, .inr (13, [.null, .null, .null, va_rf (root), .int (zI (sz)), .int (zI (mc)), .null, .null, .null]))]) C hP (by assumption) q1287 dJ4_rotateRight_78 ?_
        rw [show (va_up pa r (pa p)) p = pa p from by simp [va_up, hne.2.1.symm]]
        rw [hy_44_1]
        refine lv_aload_n hx hb dJ4_rotateRight_81 rfl (lv_at hl 0 rfl) ?_
        refine z_eplf (X := [(a, .inr (13, [.null, .null, .null, va_rf (root), .int (zI (sz)), .int (zI (mc)), .null, .null, .null]))]) C hP hD hS (tm_pa hq hp hy_44_1).1 (v9 := (some r)) q1284 dJ4_rotateRight_82 (fun H locs hP hD hS => ?_)
        refine lv_aload_n hx hb dJ4_rotateRight_85 rfl (lv_at hl 0 rfl) ?_
        refine lv_aload_n hx hb dJ4_rotateRight_86 rfl (lv_at hl 2 rfl) ?_
        refine z_eprt (X := [(a, .inr (13, [.null, .null, .null, va_rf (root), .int (zI (sz)), .int (zI (mc)), .null, .null, .null]))]) C hP hD hS hne.1 (v9 := (some p)) q1285 dJ4_rotateRight_87 (fun H locs hP hD hS => ?_)
        refine lv_aload_n hx hb dJ4_rotateRight_90 rfl (lv_at hl 2 rfl) ?_
        refine lv_aload_n hx hb dJ4_rotateRight_91 rfl (lv_at hl 0 rfl) ?_
        refine z_eppa (X := [(a, .inr (13, [.null, .null, .null, va_rf (root), .int (zI (sz)), .int (zI (mc)), .null, .null, .null]))]) C hP hD hS (by assumption) (v9 := (some r)) q1287 dJ4_rotateRight_92 (fun H locs hP hD hS => ?_)
        exact z_vretG C hlk hr hQ ⟨root, (va_up (va_up lf p (rt r)) y_44_1 (some r)), (va_up rt r (some p)), (va_up (va_up pa r (pa p)) p (some r))⟩ rfl ⟨tm_rr hq hp hpr (PA := pa) (fun c hc => by rw [c_21] at hc; cases hc) (fun x _ => rfl) (Or.inr (Or.inr ⟨y_44_1, hy_44_1, c_63, rfl, rfl, rfl⟩)), (by simp [va_up]), (by simp [va_up]), (by simp [va_up, hne.2.1]), (fun y9 e1 e2 e3 => by simp [va_up, e1, e2]), (fun g e1 e2 => by obtain rfl := Option.some.inj (e1.symm.trans hy_44_1); exact absurd e2 c_63)⟩ hP hD hS (Nat.le_of_ble_eq_true rfl) (Nat.le_of_ble_eq_true rfl) dJ4_rotateRight_95
      · refine lv_aload_n hx hb dJ4_rotateRight_66 rfl (lv_at hl 2 rfl) ?_
        refine z_epa (X := [(a, .inr (13, [.null, .null, .null, va_rf (root), .int (zI (sz)), .int (zI (mc)), .null, .null, .null]))]) C hP (by assumption) q1287 dJ4_rotateRight_67 ?_
        rw [show (va_up pa r (pa p)) p = pa p from by simp [va_up, hne.2.1.symm]]
        rw [hy_44_1]
        refine lv_aload_n hx hb dJ4_rotateRight_70 rfl (lv_at hl 0 rfl) ?_
        refine z_eprt (X := [(a, .inr (13, [.null, .null, .null, va_rf (root), .int (zI (sz)), .int (zI (mc)), .null, .null, .null]))]) C hP hD hS (tm_pa hq hp hy_44_1).1 (v9 := (some r)) q1285 dJ4_rotateRight_71 (fun H locs hP hD hS => ?_)
        refine lv_goto (tgt := 85) hx hb dJ4_rotateRight_74 (by decide) ?_
        refine lv_aload_n hx hb dJ4_rotateRight_85 rfl (lv_at hl 0 rfl) ?_
        refine lv_aload_n hx hb dJ4_rotateRight_86 rfl (lv_at hl 2 rfl) ?_
        refine z_eprt (X := [(a, .inr (13, [.null, .null, .null, va_rf (root), .int (zI (sz)), .int (zI (mc)), .null, .null, .null]))]) C hP hD hS hne.1 (v9 := (some p)) q1285 dJ4_rotateRight_87 (fun H locs hP hD hS => ?_)
        refine lv_aload_n hx hb dJ4_rotateRight_90 rfl (lv_at hl 2 rfl) ?_
        refine lv_aload_n hx hb dJ4_rotateRight_91 rfl (lv_at hl 0 rfl) ?_
        refine z_eppa (X := [(a, .inr (13, [.null, .null, .null, va_rf (root), .int (zI (sz)), .int (zI (mc)), .null, .null, .null]))]) C hP hD hS (by assumption) (v9 := (some r)) q1287 dJ4_rotateRight_92 (fun H locs hP hD hS => ?_)
        exact z_vretG C hlk hr hQ ⟨root, (va_up lf p (rt r)), (va_up (va_up rt y_44_1 (some r)) r (some p)), (va_up (va_up pa r (pa p)) p (some r))⟩ rfl ⟨tm_rr hq hp hpr (PA := pa) (fun c hc => by rw [c_21] at hc; cases hc) (fun x _ => rfl) (Or.inr (Or.inl ⟨y_44_1, hy_44_1, c_63, rfl, rfl, rfl⟩)), (by simp [va_up]), (by simp [va_up]), (by simp [va_up, hne.2.1]), (fun y9 e1 e2 e3 => by simp [va_up, e1, e2]), (fun g e1 e2 => by obtain rfl := Option.some.inj (e1.symm.trans hy_44_1); by_cases z : g = r <;> simp [va_up, z]; exact absurd (z ▸ e2) (fun w => (hne.2.2 p w).2.1 rfl))⟩ hP hD hS (Nat.le_of_ble_eq_true rfl) (Nat.le_of_ble_eq_true rfl) dJ4_rotateRight_95
    · skip
      refine lv_aload_n hx hb dJ4_rotateRight_47 rfl (lv_at hl 1 rfl) ?_
      refine lv_aload_n hx hb dJ4_rotateRight_48 rfl (lv_at hl 0 rfl) ?_
      refine z_put C hP hD hS 0 rfl rfl in_J4 tyJ4_ok nmJ4 3 (by decide) q392 rfl (v := .ref (r)) rfl rfl (Nat.le_of_ble_eq_true rfl) (ws' := ([(a, .inr (13, [.null, .null, .null, .ref (r), .int (zI (sz)), .int (zI (mc)), .null, .null, .null]))] ++ va_pl L (trE ke vl (va_up lf p (rt r)) rt (va_up pa r (pa p)) co))) rfl dJ4_rotateRight_49 (fun H locs hP hD hS => ?_)
      refine lv_goto (tgt := 85) hx hb dJ4_rotateRight_52 (by decide) ?_
      refine lv_aload_n hx hb dJ4_rotateRight_85 rfl (lv_at hl 0 rfl) ?_
      refine lv_aload_n hx hb dJ4_rotateRight_86 rfl (lv_at hl 2 rfl) ?_
      refine z_eprt (X := [(a, .inr (13, [.null, .null, .null, .ref (r), .int (zI (sz)), .int (zI (mc)), .null, .null, .null]))]) C hP hD hS hne.1 (v9 := (some p)) q1285 dJ4_rotateRight_87 (fun H locs hP hD hS => ?_)
      refine lv_aload_n hx hb dJ4_rotateRight_90 rfl (lv_at hl 2 rfl) ?_
      refine lv_aload_n hx hb dJ4_rotateRight_91 rfl (lv_at hl 0 rfl) ?_
      refine z_eppa (X := [(a, .inr (13, [.null, .null, .null, .ref (r), .int (zI (sz)), .int (zI (mc)), .null, .null, .null]))]) C hP hD hS (by assumption) (v9 := (some r)) q1287 dJ4_rotateRight_92 (fun H locs hP hD hS => ?_)
      exact z_vretG C hlk hr hQ ⟨some (r), (va_up lf p (rt r)), (va_up rt r (some p)), (va_up (va_up pa r (pa p)) p (some r))⟩ rfl ⟨tm_rr hq hp hpr (PA := pa) (fun c hc => by rw [c_21] at hc; cases hc) (fun x _ => rfl) (Or.inl ⟨c_44, rfl, rfl, rfl⟩), (by simp [va_up]), (by simp [va_up]), (by simp [va_up, hne.2.1]), (fun y9 e1 e2 e3 => by simp [va_up, e1, e2]), (fun g e1 e2 => by rw [c_44] at e1; cases e1)⟩ hP hD hS (Nat.le_of_ble_eq_true rfl) (Nat.le_of_ble_eq_true rfl) dJ4_rotateRight_95
  · obtain ⟨y_21_2, hy_21_2⟩ := Option.ne_none_iff_exists'.mp c_21
    refine lv_aload_n hx hb dJ4_rotateRight_24 rfl (lv_at hl 0 rfl) ?_
    refine z_ert (X := [(a, .inr (13, [.null, .null, .null, va_rf (root), .int (zI (sz)), .int (zI (mc)), .null, .null, .null]))]) C hP hne.1 q1285 dJ4_rotateRight_25 ?_
    rw [hy_21_2]
    refine lv_aload_n hx hb dJ4_rotateRight_28 rfl (lv_at hl 2 rfl) ?_
    refine z_eppa (X := [(a, .inr (13, [.null, .null, .null, va_rf (root), .int (zI (sz)), .int (zI (mc)), .null, .null, .null]))]) C hP hD hS (hne.2.2 _ hy_21_2).1 (v9 := (some p)) q1287 dJ4_rotateRight_29 (fun H locs hP hD hS => ?_)
    refine lv_aload_n hx hb dJ4_rotateRight_32 rfl (lv_at hl 0 rfl) ?_
    refine lv_aload_n hx hb dJ4_rotateRight_33 rfl (lv_at hl 2 rfl) ?_
    refine z_epa (X := [(a, .inr (13, [.null, .null, .null, va_rf (root), .int (zI (sz)), .int (zI (mc)), .null, .null, .null]))]) C hP (by assumption) q1287 dJ4_rotateRight_34 ?_
    rw [show (va_up pa y_21_2 (some p)) p = pa p from by simp [va_up, hne.2.1.symm, (hne.2.2 _ hy_21_2).2.1.symm]]
    refine z_eppa (X := [(a, .inr (13, [.null, .null, .null, va_rf (root), .int (zI (sz)), .int (zI (mc)), .null, .null, .null]))]) C hP hD hS hne.1 (v9 := (pa p)) q1287 dJ4_rotateRight_37 (fun H locs hP hD hS => ?_)
    refine lv_aload_n hx hb dJ4_rotateRight_40 rfl (lv_at hl 2 rfl) ?_
    refine z_epa (X := [(a, .inr (13, [.null, .null, .null, va_rf (root), .int (zI (sz)), .int (zI (mc)), .null, .null, .null]))]) C hP (by assumption) q1287 dJ4_rotateRight_41 ?_
    rw [show (va_up (va_up pa y_21_2 (some p)) r (pa p)) p = pa p from by simp [va_up, hne.2.1.symm, (hne.2.2 _ hy_21_2).2.1.symm]]
    refine z_ifnonnull (tgt := 55) C dJ4_rotateRight_44 (by decide) (fun c_44 => ?_) (fun c_44 => ?_)
    · obtain ⟨y_44_3, hy_44_3⟩ := Option.ne_none_iff_exists'.mp c_44
      refine lv_aload_n hx hb dJ4_rotateRight_55 rfl (lv_at hl 2 rfl) ?_
      refine z_epa (X := [(a, .inr (13, [.null, .null, .null, va_rf (root), .int (zI (sz)), .int (zI (mc)), .null, .null, .null]))]) C hP (by assumption) q1287 dJ4_rotateRight_56 ?_
      rw [show (va_up (va_up pa y_21_2 (some p)) r (pa p)) p = pa p from by simp [va_up, hne.2.1.symm, (hne.2.2 _ hy_21_2).2.1.symm]]
      rw [hy_44_3]
      refine z_ert (X := [(a, .inr (13, [.null, .null, .null, va_rf (root), .int (zI (sz)), .int (zI (mc)), .null, .null, .null]))]) C hP (tm_pa hq hp hy_44_3).1 q1285 dJ4_rotateRight_59 ?_
      refine lv_aload_n hx hb dJ4_rotateRight_62 rfl (lv_at hl 2 rfl) ?_
      refine lv_acmp_ne (rx := rt y_44_3) (ry := some (p)) (tgt := 77) hx hb dJ4_rotateRight_63 (by decide) (fun c_63 => ?_) (fun c_63 => ?_)
      · refine lv_aload_n hx hb dJ4_rotateRight_77 rfl (lv_at hl 2 rfl) ?_
        refine z_epa (X := [(a, .inr (13, [.null, .null, .null, va_rf (root), .int (zI (sz)), .int (zI (mc)), .null, .null, .null]))]) C hP (by assumption) q1287 dJ4_rotateRight_78 ?_
        rw [show (va_up (va_up pa y_21_2 (some p)) r (pa p)) p = pa p from by simp [va_up, hne.2.1.symm, (hne.2.2 _ hy_21_2).2.1.symm]]
        rw [hy_44_3]
        refine lv_aload_n hx hb dJ4_rotateRight_81 rfl (lv_at hl 0 rfl) ?_
        refine z_eplf (X := [(a, .inr (13, [.null, .null, .null, va_rf (root), .int (zI (sz)), .int (zI (mc)), .null, .null, .null]))]) C hP hD hS (tm_pa hq hp hy_44_3).1 (v9 := (some r)) q1284 dJ4_rotateRight_82 (fun H locs hP hD hS => ?_)
        refine lv_aload_n hx hb dJ4_rotateRight_85 rfl (lv_at hl 0 rfl) ?_
        refine lv_aload_n hx hb dJ4_rotateRight_86 rfl (lv_at hl 2 rfl) ?_
        refine z_eprt (X := [(a, .inr (13, [.null, .null, .null, va_rf (root), .int (zI (sz)), .int (zI (mc)), .null, .null, .null]))]) C hP hD hS hne.1 (v9 := (some p)) q1285 dJ4_rotateRight_87 (fun H locs hP hD hS => ?_)
        refine lv_aload_n hx hb dJ4_rotateRight_90 rfl (lv_at hl 2 rfl) ?_
        refine lv_aload_n hx hb dJ4_rotateRight_91 rfl (lv_at hl 0 rfl) ?_
        refine z_eppa (X := [(a, .inr (13, [.null, .null, .null, va_rf (root), .int (zI (sz)), .int (zI (mc)), .null, .null, .null]))]) C hP hD hS (by assumption) (v9 := (some r)) q1287 dJ4_rotateRight_92 (fun H locs hP hD hS => ?_)
        exact z_vretG C hlk hr hQ ⟨root, (va_up (va_up lf p (rt r)) y_44_3 (some r)), (va_up rt r (some p)), (va_up (va_up (va_up pa y_21_2 (some p)) r (pa p)) p (some r))⟩ rfl ⟨tm_rr hq hp hpr (PA := (va_up pa y_21_2 (some p))) (fun c hc => by rw [Option.some.inj (hc.symm.trans hy_21_2), va_upe]) (fun x hx => va_upn (fun z => hx (by rw [z]; exact hy_21_2))) (Or.inr (Or.inr ⟨y_44_3, hy_44_3, c_63, rfl, rfl, rfl⟩)), (by simp [va_up]), (by simp [va_up]), (by simp [va_up, hne.2.1]), (fun y9 e1 e2 e3 => by simp [va_up, e1, e2, (show y9 ≠ y_21_2 from fun z => e3 (by rw [z]; exact hy_21_2))]), (fun g e1 e2 => by obtain rfl := Option.some.inj (e1.symm.trans hy_44_3); exact absurd e2 c_63)⟩ hP hD hS (Nat.le_of_ble_eq_true rfl) (Nat.le_of_ble_eq_true rfl) dJ4_rotateRight_95
      · refine lv_aload_n hx hb dJ4_rotateRight_66 rfl (lv_at hl 2 rfl) ?_
        refine z_epa (X := [(a, .inr (13, [.null, .null, .null, va_rf (root), .int (zI (sz)), .int (zI (mc)), .null, .null, .null]))]) C hP (by assumption) q1287 dJ4_rotateRight_67 ?_
        rw [show (va_up (va_up pa y_21_2 (some p)) r (pa p)) p = pa p from by simp [va_up, hne.2.1.symm, (hne.2.2 _ hy_21_2).2.1.symm]]
        rw [hy_44_3]
        refine lv_aload_n hx hb dJ4_rotateRight_70 rfl (lv_at hl 0 rfl) ?_
        refine z_eprt (X := [(a, .inr (13, [.null, .null, .null, va_rf (root), .int (zI (sz)), .int (zI (mc)), .null, .null, .null]))]) C hP hD hS (tm_pa hq hp hy_44_3).1 (v9 := (some r)) q1285 dJ4_rotateRight_71 (fun H locs hP hD hS => ?_)
        refine lv_goto (tgt := 85) hx hb dJ4_rotateRight_74 (by decide) ?_
        refine lv_aload_n hx hb dJ4_rotateRight_85 rfl (lv_at hl 0 rfl) ?_
        refine lv_aload_n hx hb dJ4_rotateRight_86 rfl (lv_at hl 2 rfl) ?_
        refine z_eprt (X := [(a, .inr (13, [.null, .null, .null, va_rf (root), .int (zI (sz)), .int (zI (mc)), .null, .null, .null]))]) C hP hD hS hne.1 (v9 := (some p)) q1285 dJ4_rotateRight_87 (fun H locs hP hD hS => ?_)
        refine lv_aload_n hx hb dJ4_rotateRight_90 rfl (lv_at hl 2 rfl) ?_
        refine lv_aload_n hx hb dJ4_rotateRight_91 rfl (lv_at hl 0 rfl) ?_
        refine z_eppa (X := [(a, .inr (13, [.null, .null, .null, va_rf (root), .int (zI (sz)), .int (zI (mc)), .null, .null, .null]))]) C hP hD hS (by assumption) (v9 := (some r)) q1287 dJ4_rotateRight_92 (fun H locs hP hD hS => ?_)
        exact z_vretG C hlk hr hQ ⟨root, (va_up lf p (rt r)), (va_up (va_up rt y_44_3 (some r)) r (some p)), (va_up (va_up (va_up pa y_21_2 (some p)) r (pa p)) p (some r))⟩ rfl ⟨tm_rr hq hp hpr (PA := (va_up pa y_21_2 (some p))) (fun c hc => by rw [Option.some.inj (hc.symm.trans hy_21_2), va_upe]) (fun x hx => va_upn (fun z => hx (by rw [z]; exact hy_21_2))) (Or.inr (Or.inl ⟨y_44_3, hy_44_3, c_63, rfl, rfl, rfl⟩)), (by simp [va_up]), (by simp [va_up]), (by simp [va_up, hne.2.1]), (fun y9 e1 e2 e3 => by simp [va_up, e1, e2, (show y9 ≠ y_21_2 from fun z => e3 (by rw [z]; exact hy_21_2))]), (fun g e1 e2 => by obtain rfl := Option.some.inj (e1.symm.trans hy_44_3); by_cases z : g = r <;> simp [va_up, z]; exact absurd (z ▸ e2) (fun w => (hne.2.2 p w).2.1 rfl))⟩ hP hD hS (Nat.le_of_ble_eq_true rfl) (Nat.le_of_ble_eq_true rfl) dJ4_rotateRight_95
    · skip
      refine lv_aload_n hx hb dJ4_rotateRight_47 rfl (lv_at hl 1 rfl) ?_
      refine lv_aload_n hx hb dJ4_rotateRight_48 rfl (lv_at hl 0 rfl) ?_
      refine z_put C hP hD hS 0 rfl rfl in_J4 tyJ4_ok nmJ4 3 (by decide) q392 rfl (v := .ref (r)) rfl rfl (Nat.le_of_ble_eq_true rfl) (ws' := ([(a, .inr (13, [.null, .null, .null, .ref (r), .int (zI (sz)), .int (zI (mc)), .null, .null, .null]))] ++ va_pl L (trE ke vl (va_up lf p (rt r)) rt (va_up (va_up pa y_21_2 (some p)) r (pa p)) co))) rfl dJ4_rotateRight_49 (fun H locs hP hD hS => ?_)
      refine lv_goto (tgt := 85) hx hb dJ4_rotateRight_52 (by decide) ?_
      refine lv_aload_n hx hb dJ4_rotateRight_85 rfl (lv_at hl 0 rfl) ?_
      refine lv_aload_n hx hb dJ4_rotateRight_86 rfl (lv_at hl 2 rfl) ?_
      refine z_eprt (X := [(a, .inr (13, [.null, .null, .null, .ref (r), .int (zI (sz)), .int (zI (mc)), .null, .null, .null]))]) C hP hD hS hne.1 (v9 := (some p)) q1285 dJ4_rotateRight_87 (fun H locs hP hD hS => ?_)
      refine lv_aload_n hx hb dJ4_rotateRight_90 rfl (lv_at hl 2 rfl) ?_
      refine lv_aload_n hx hb dJ4_rotateRight_91 rfl (lv_at hl 0 rfl) ?_
      refine z_eppa (X := [(a, .inr (13, [.null, .null, .null, .ref (r), .int (zI (sz)), .int (zI (mc)), .null, .null, .null]))]) C hP hD hS (by assumption) (v9 := (some r)) q1287 dJ4_rotateRight_92 (fun H locs hP hD hS => ?_)
      exact z_vretG C hlk hr hQ ⟨some (r), (va_up lf p (rt r)), (va_up rt r (some p)), (va_up (va_up (va_up pa y_21_2 (some p)) r (pa p)) p (some r))⟩ rfl ⟨tm_rr hq hp hpr (PA := (va_up pa y_21_2 (some p))) (fun c hc => by rw [Option.some.inj (hc.symm.trans hy_21_2), va_upe]) (fun x hx => va_upn (fun z => hx (by rw [z]; exact hy_21_2))) (Or.inl ⟨c_44, rfl, rfl, rfl⟩), (by simp [va_up]), (by simp [va_up]), (by simp [va_up, hne.2.1]), (fun y9 e1 e2 e3 => by simp [va_up, e1, e2, (show y9 ≠ y_21_2 from fun z => e3 (by rw [z]; exact hy_21_2))]), (fun g e1 e2 => by rw [c_44] at e1; cases e1)⟩ hP hD hS (Nat.le_of_ble_eq_true rfl) (Nat.le_of_ble_eq_true rfl) dJ4_rotateRight_95

set_option maxHeartbeats 600000 in
set_option maxRecDepth 100000 in
theorem k_J4_rotateLeft_no (l : Launch) (D : va_G) (dA : Nat → ClassId) (B : Nat) (en : Nat → Nat → Nat) (a : Nat) (root : Option Nat) (sz mc : Int) (K : Nat → Int) (L : List Nat) (ke : Nat → Nat) (vl lf rt pa : Nat → Option Nat) (co : Nat → Bool) : zH (S := Unit) l yJ4_rotateLeft cJ4_rotateLeft 3 (none) (zRmW 0 0 0 0) B en ([], []) D dA [.ref (a), .null] ([(a, .inr (13, [.null, .null, .null, va_rf (root), .int (zI (sz)), .int (zI (mc)), .null, .null, .null]))] ++ va_pl L (trE ke vl lf rt pa co)) (fun _ : Unit => none) (fun _ : Unit => True) (fun _ : Unit => ([(a, .inr (13, [.null, .null, .null, va_rf (root), .int (zI (sz)), .int (zI (mc)), .null, .null, .null]))] ++ va_pl L (trE ke vl lf rt pa co))) := by
  refine zH.of (by decide +kernel) rfl ?_
  intro pp ee ss mm args below meth cd Q A C hr hlk hQ hA hV hin H locs hP hD hS ls hl
  have hx := C.1.1
  have hb := C.1.2.1
  have hl : lv_has ls 3 [(0, .ref (a)), (1, .null)] := hl
  refine lv_aload_nN hx hb dJ4_rotateLeft_0 rfl (lv_at hl 1 rfl) ?_
  refine lv_ifnullN (tgt := 95) hx hb dJ4_rotateLeft_1 (by decide) ?_
  exact z_vretG C hlk hr hQ () rfl trivial hP hD hS (Nat.le_of_ble_eq_true rfl) (Nat.le_of_ble_eq_true rfl) dJ4_rotateLeft_95

set_option maxHeartbeats 600000 in
set_option maxRecDepth 100000 in
theorem k_J4_rotateRight_no (l : Launch) (D : va_G) (dA : Nat → ClassId) (B : Nat) (en : Nat → Nat → Nat) (a : Nat) (root : Option Nat) (sz mc : Int) (K : Nat → Int) (L : List Nat) (ke : Nat → Nat) (vl lf rt pa : Nat → Option Nat) (co : Nat → Bool) : zH (S := Unit) l yJ4_rotateRight cJ4_rotateRight 3 (none) (zRmW 0 0 0 0) B en ([], []) D dA [.ref (a), .null] ([(a, .inr (13, [.null, .null, .null, va_rf (root), .int (zI (sz)), .int (zI (mc)), .null, .null, .null]))] ++ va_pl L (trE ke vl lf rt pa co)) (fun _ : Unit => none) (fun _ : Unit => True) (fun _ : Unit => ([(a, .inr (13, [.null, .null, .null, va_rf (root), .int (zI (sz)), .int (zI (mc)), .null, .null, .null]))] ++ va_pl L (trE ke vl lf rt pa co))) := by
  refine zH.of (by decide +kernel) rfl ?_
  intro pp ee ss mm args below meth cd Q A C hr hlk hQ hA hV hin H locs hP hD hS ls hl
  have hx := C.1.1
  have hb := C.1.2.1
  have hl : lv_has ls 3 [(0, .ref (a)), (1, .null)] := hl
  refine lv_aload_nN hx hb dJ4_rotateRight_0 rfl (lv_at hl 1 rfl) ?_
  refine lv_ifnullN (tgt := 95) hx hb dJ4_rotateRight_1 (by decide) ?_
  exact z_vretG C hlk hr hQ () rfl trivial hP hD hS (Nat.le_of_ble_eq_true rfl) (Nat.le_of_ble_eq_true rfl) dJ4_rotateRight_95

set_option maxHeartbeats 600000 in
set_option maxRecDepth 100000 in
theorem k_J4_setColor (l : Launch) (D : va_G) (dA : Nat → ClassId) (B : Nat) (en : Nat → Nat → Nat) (p : Option Nat) (c : Bool) (a : Nat) (root : Option Nat) (sz mc : Int) (K : Nat → Int) (L : List Nat) (ke : Nat → Nat) (vl lf rt pa : Nat → Option Nat) (co : Nat → Bool) (hp : ∀ x, p = some x → x ∈ L) : zH (S := (Nat → Bool)) l yJ4_setColor cJ4_setColor 2 (none) (zRmW 0 0 0 0) B en ([], []) D dA [va_rf (p), .int (zB (c))] ([(a, .inr (13, [.null, .null, .null, va_rf (root), .int (zI (sz)), .int (zI (mc)), .null, .null, .null]))] ++ va_pl L (trE ke vl lf rt pa co)) (fun u : (Nat → Bool) => none) (fun u : (Nat → Bool) => ∀ x, u x = if p = some x then c else co x) (fun u : (Nat → Bool) => ([(a, .inr (13, [.null, .null, .null, va_rf (root), .int (zI (sz)), .int (zI (mc)), .null, .null, .null]))] ++ va_pl L (trE ke vl lf rt pa u))) := by
  refine zH.of (by decide +kernel) (by cases p <;> rfl) ?_
  intro pp ee ss mm args below meth cd Q A C hr hlk hQ hA hV hin H locs hP hD hS ls hl
  have hx := C.1.1
  have hb := C.1.2.1
  have hl : lv_has ls 2 [(0, va_rf (p)), (1, .int (zB (c)))] := (by cases p <;> exact hl)
  refine z_oload_n hx hb dJ4_setColor_0 rfl (lv_at hl 0 rfl) ?_
  refine z_ifnull (tgt := 9) C dJ4_setColor_1 (by decide) (fun c_1 => ?_) (fun c_1 => ?_)
  · rw [c_1] at hl
    exact z_vretG C hlk hr hQ (co) rfl (fun x => by rw [c_1]; simp) hP hD hS (Nat.le_of_ble_eq_true rfl) (Nat.le_of_ble_eq_true rfl) dJ4_setColor_9
  · obtain ⟨y_1_1, hy_1_1⟩ := Option.ne_none_iff_exists'.mp c_1
    rw [hy_1_1] at hl
    refine lv_aload_n hx hb dJ4_setColor_4 rfl (lv_at hl 0 rfl) ?_
    refine lv_iload_n hx hb dJ4_setColor_5 rfl (lv_at hl 1 rfl) ?_
    refine z_epco (X := [(a, .inr (13, [.null, .null, .null, va_rf (root), .int (zI (sz)), .int (zI (mc)), .null, .null, .null]))]) C hP hD hS (hp _ hy_1_1) (v9 := c) q1289 dJ4_setColor_6 (fun H locs hP hD hS => ?_)
    exact z_vretG C hlk hr hQ ((va_up co y_1_1 c)) rfl (fun x => by rw [hy_1_1]; by_cases z : x = y_1_1 <;> simp [va_up, z]; exact fun w => absurd w.symm z) hP hD hS (Nat.le_of_ble_eq_true rfl) (Nat.le_of_ble_eq_true rfl) dJ4_setColor_9
