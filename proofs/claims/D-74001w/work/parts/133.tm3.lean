/-! TreeMap: links (printed by tools/s_tm1.py) -/
set_option maxHeartbeats 600000 in
set_option maxRecDepth 100000 in
theorem k_J4_parentOf (l : Launch) (D : va_G) (dA : Nat → ClassId) (p : Option Nat) (L : List Nat) (ke : Nat → Nat) (vl lf rt pa : Nat → Option Nat) (co : Nat → Bool) (hp : ∀ x, p = some x → x ∈ L) : zM l yJ4_parentOf cJ4_parentOf 1 (some (.object "java/util/TreeMap$Entry")) (zRm 0 0) D dA [va_rf (p)] ([] ++ va_pl L (trE ke vl lf rt pa co)) (some (va_rf (p.bind pa))) := by
  refine zM.of (by decide +kernel) (by cases p <;> rfl) ?_
  intro pp ee ss mm args below meth cd Q C hr hlk hQ hP ls hl
  have hx := C.1.1
  have hb := C.1.2.1
  have hl : lv_has ls 1 [(0, va_rf (p))] := (by cases p <;> exact hl)
  refine z_oload_n hx hb dJ4_parentOf_0 rfl (lv_at hl 0 rfl) ?_
  refine z_ifnonnull (tgt := 8) C dJ4_parentOf_1 (by decide) (fun c_1 => ?_) (fun c_1 => ?_)
  · obtain ⟨y_1_1, hy_1_1⟩ := Option.ne_none_iff_exists'.mp c_1
    rw [hy_1_1] at hl
    refine lv_aload_n hx hb dJ4_parentOf_8 rfl (lv_at hl 0 rfl) ?_
    refine z_epa (X := []) C hP (hp _ hy_1_1) q1287 dJ4_parentOf_9 ?_
    exact z_aret C hlk hr (Or.inl ⟨_, rfl⟩) (va_rf_or _) hQ (by first | (rw [hy_1_1]; rfl) | (rw [c_1]; rfl)) dJ4_parentOf_12
  · rw [c_1] at hl
    refine lv_null C.1.1 C.1.2.1 dJ4_parentOf_4 ?_
    refine lv_goto (tgt := 12) hx hb dJ4_parentOf_5 (by decide) ?_
    exact z_aret C hlk hr (Or.inl ⟨_, rfl⟩) (Or.inl rfl) hQ (by first | (rw [hy_1_1]; rfl) | (rw [c_1]; rfl)) dJ4_parentOf_12

set_option maxHeartbeats 600000 in
set_option maxRecDepth 100000 in
theorem k_J4_leftOf (l : Launch) (D : va_G) (dA : Nat → ClassId) (p : Option Nat) (L : List Nat) (ke : Nat → Nat) (vl lf rt pa : Nat → Option Nat) (co : Nat → Bool) (hp : ∀ x, p = some x → x ∈ L) : zM l yJ4_leftOf cJ4_leftOf 1 (some (.object "java/util/TreeMap$Entry")) (zRm 0 0) D dA [va_rf (p)] ([] ++ va_pl L (trE ke vl lf rt pa co)) (some (va_rf (p.bind lf))) := by
  refine zM.of (by decide +kernel) (by cases p <;> rfl) ?_
  intro pp ee ss mm args below meth cd Q C hr hlk hQ hP ls hl
  have hx := C.1.1
  have hb := C.1.2.1
  have hl : lv_has ls 1 [(0, va_rf (p))] := (by cases p <;> exact hl)
  refine z_oload_n hx hb dJ4_leftOf_0 rfl (lv_at hl 0 rfl) ?_
  refine z_ifnonnull (tgt := 8) C dJ4_leftOf_1 (by decide) (fun c_1 => ?_) (fun c_1 => ?_)
  · obtain ⟨y_1_1, hy_1_1⟩ := Option.ne_none_iff_exists'.mp c_1
    rw [hy_1_1] at hl
    refine lv_aload_n hx hb dJ4_leftOf_8 rfl (lv_at hl 0 rfl) ?_
    refine z_elf (X := []) C hP (hp _ hy_1_1) q1284 dJ4_leftOf_9 ?_
    exact z_aret C hlk hr (Or.inl ⟨_, rfl⟩) (va_rf_or _) hQ (by first | (rw [hy_1_1]; rfl) | (rw [c_1]; rfl)) dJ4_leftOf_12
  · rw [c_1] at hl
    refine lv_null C.1.1 C.1.2.1 dJ4_leftOf_4 ?_
    refine lv_goto (tgt := 12) hx hb dJ4_leftOf_5 (by decide) ?_
    exact z_aret C hlk hr (Or.inl ⟨_, rfl⟩) (Or.inl rfl) hQ (by first | (rw [hy_1_1]; rfl) | (rw [c_1]; rfl)) dJ4_leftOf_12

set_option maxHeartbeats 600000 in
set_option maxRecDepth 100000 in
theorem k_J4_rightOf (l : Launch) (D : va_G) (dA : Nat → ClassId) (p : Option Nat) (L : List Nat) (ke : Nat → Nat) (vl lf rt pa : Nat → Option Nat) (co : Nat → Bool) (hp : ∀ x, p = some x → x ∈ L) : zM l yJ4_rightOf cJ4_rightOf 1 (some (.object "java/util/TreeMap$Entry")) (zRm 0 0) D dA [va_rf (p)] ([] ++ va_pl L (trE ke vl lf rt pa co)) (some (va_rf (p.bind rt))) := by
  refine zM.of (by decide +kernel) (by cases p <;> rfl) ?_
  intro pp ee ss mm args below meth cd Q C hr hlk hQ hP ls hl
  have hx := C.1.1
  have hb := C.1.2.1
  have hl : lv_has ls 1 [(0, va_rf (p))] := (by cases p <;> exact hl)
  refine z_oload_n hx hb dJ4_rightOf_0 rfl (lv_at hl 0 rfl) ?_
  refine z_ifnonnull (tgt := 8) C dJ4_rightOf_1 (by decide) (fun c_1 => ?_) (fun c_1 => ?_)
  · obtain ⟨y_1_1, hy_1_1⟩ := Option.ne_none_iff_exists'.mp c_1
    rw [hy_1_1] at hl
    refine lv_aload_n hx hb dJ4_rightOf_8 rfl (lv_at hl 0 rfl) ?_
    refine z_ert (X := []) C hP (hp _ hy_1_1) q1285 dJ4_rightOf_9 ?_
    exact z_aret C hlk hr (Or.inl ⟨_, rfl⟩) (va_rf_or _) hQ (by first | (rw [hy_1_1]; rfl) | (rw [c_1]; rfl)) dJ4_rightOf_12
  · rw [c_1] at hl
    refine lv_null C.1.1 C.1.2.1 dJ4_rightOf_4 ?_
    refine lv_goto (tgt := 12) hx hb dJ4_rightOf_5 (by decide) ?_
    exact z_aret C hlk hr (Or.inl ⟨_, rfl⟩) (Or.inl rfl) hQ (by first | (rw [hy_1_1]; rfl) | (rw [c_1]; rfl)) dJ4_rightOf_12

set_option maxHeartbeats 600000 in
set_option maxRecDepth 100000 in
theorem k_J4_colorOf (l : Launch) (D : va_G) (dA : Nat → ClassId) (p : Option Nat) (L : List Nat) (ke : Nat → Nat) (vl lf rt pa : Nat → Option Nat) (co : Nat → Bool) (hp : ∀ x, p = some x → x ∈ L) : zM l yJ4_colorOf cJ4_colorOf 1 (some .boolean) (zRm 0 0) D dA [va_rf (p)] ([] ++ va_pl L (trE ke vl lf rt pa co)) (some (.int (zB ((p.map co).getD true)))) := by
  refine zM.of (by decide +kernel) (by cases p <;> rfl) ?_
  intro pp ee ss mm args below meth cd Q C hr hlk hQ hP ls hl
  have hx := C.1.1
  have hb := C.1.2.1
  have hl : lv_has ls 1 [(0, va_rf (p))] := (by cases p <;> exact hl)
  refine z_oload_n hx hb dJ4_colorOf_0 rfl (lv_at hl 0 rfl) ?_
  refine z_ifnonnull (tgt := 8) C dJ4_colorOf_1 (by decide) (fun c_1 => ?_) (fun c_1 => ?_)
  · obtain ⟨y_1_1, hy_1_1⟩ := Option.ne_none_iff_exists'.mp c_1
    rw [hy_1_1] at hl
    refine lv_aload_n hx hb dJ4_colorOf_8 rfl (lv_at hl 0 rfl) ?_
    refine z_eco (X := []) C hP (hp _ hy_1_1) q1289 dJ4_colorOf_9 ?_
    exact z_zretB C hlk hr hQ (by first | (rw [hy_1_1]; rfl) | (rw [c_1]; rfl)) dJ4_colorOf_12
  · rw [c_1] at hl
    refine z_iconst C dJ4_colorOf_4 ?_
    refine lv_goto (tgt := 12) hx hb dJ4_colorOf_5 (by decide) ?_
    exact z_zret1 C hlk hr hQ (by first | (rw [hy_1_1]; rfl) | (rw [c_1]; rfl)) dJ4_colorOf_12

set_option maxHeartbeats 600000 in
set_option maxRecDepth 100000 in
theorem k_J4_keyOrNull (l : Launch) (D : va_G) (dA : Nat → ClassId) (p : Option Nat) (L : List Nat) (ke : Nat → Nat) (vl lf rt pa : Nat → Option Nat) (co : Nat → Bool) (hp : ∀ x, p = some x → x ∈ L) : zM l yJ4_keyOrNull cJ4_keyOrNull 1 (some (.object "java/lang/Object")) (zRm 0 0) D dA [va_rf (p)] ([] ++ va_pl L (trE ke vl lf rt pa co)) (some (va_rf (p.map ke))) := by
  refine zM.of (by decide +kernel) (by cases p <;> rfl) ?_
  intro pp ee ss mm args below meth cd Q C hr hlk hQ hP ls hl
  have hx := C.1.1
  have hb := C.1.2.1
  have hl : lv_has ls 1 [(0, va_rf (p))] := (by cases p <;> exact hl)
  refine z_oload_n hx hb dJ4_keyOrNull_0 rfl (lv_at hl 0 rfl) ?_
  refine z_ifnonnull (tgt := 8) C dJ4_keyOrNull_1 (by decide) (fun c_1 => ?_) (fun c_1 => ?_)
  · obtain ⟨y_1_1, hy_1_1⟩ := Option.ne_none_iff_exists'.mp c_1
    rw [hy_1_1] at hl
    refine lv_aload_n hx hb dJ4_keyOrNull_8 rfl (lv_at hl 0 rfl) ?_
    refine z_eke (X := []) C hP (hp _ hy_1_1) q1281 dJ4_keyOrNull_9 ?_
    exact z_aret C hlk hr (Or.inl ⟨_, rfl⟩) (Or.inr ⟨_, rfl⟩) hQ (by first | (rw [hy_1_1]; rfl) | (rw [c_1]; rfl)) dJ4_keyOrNull_12
  · rw [c_1] at hl
    refine lv_null C.1.1 C.1.2.1 dJ4_keyOrNull_4 ?_
    refine lv_goto (tgt := 12) hx hb dJ4_keyOrNull_5 (by decide) ?_
    exact z_aret C hlk hr (Or.inl ⟨_, rfl⟩) (Or.inl rfl) hQ (by first | (rw [hy_1_1]; rfl) | (rw [c_1]; rfl)) dJ4_keyOrNull_12

set_option maxHeartbeats 600000 in
set_option maxRecDepth 100000 in
theorem k_J4_key (l : Launch) (D : va_G) (dA : Nat → ClassId) (p : Nat) (L : List Nat) (ke : Nat → Nat) (vl lf rt pa : Nat → Option Nat) (co : Nat → Bool) (hp : p ∈ L) : zM l yJ4_key cJ4_key 1 (some (.object "java/lang/Object")) (zRm 0 0) D dA [.ref (p)] ([] ++ va_pl L (trE ke vl lf rt pa co)) (some (.ref (ke p))) := by
  refine zM.of (by decide +kernel) rfl ?_
  intro pp ee ss mm args below meth cd Q C hr hlk hQ hP ls hl
  have hx := C.1.1
  have hb := C.1.2.1
  have hl : lv_has ls 1 [(0, .ref (p))] := hl
  refine lv_aload_n hx hb dJ4_key_0 rfl (lv_at hl 0 rfl) ?_
  refine lv_ifnonnull (tgt := 12) hx hb dJ4_key_1 (by decide) ?_
  refine lv_aload_n hx hb dJ4_key_12 rfl (lv_at hl 0 rfl) ?_
  refine z_eke (X := []) C hP (by assumption) q1281 dJ4_key_13 ?_
  exact z_aret C hlk hr (Or.inl ⟨_, rfl⟩) (Or.inr ⟨_, rfl⟩) hQ rfl dJ4_key_16
