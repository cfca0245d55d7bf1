/-! BITS 2: the lowest one -/
section ZR8
variable {p : Program} {l : Launch} {e : Env} {R : Room} {s : State} {m : MethodId} {args : Array Value} {below : List Frame} {meth : Method} {c : Code} {H : Heap} {locs : List Loc} {cells slots : Nat} {Q : State → Prop}
variable {cc : ByteArray} {nL : Nat} {own : String} {D : va_G} {dA : Nat → ClassId} {pc : Nat} {ls : Array Slot} {rest : List Value}
theorem z_notand (C : zC p s m args c cc nL own D dA) {ta tb : Int} (a b : Nat) (ha : ta = (a : Int)) (hb : tb = -(b : Int) - 1) (hdg : decode cc pc = .ok (.iand, 1))
    (k : W p l e R s m args below meth c H locs cells slots Q (F0 m (pc + 1) ls (.int (zI ((zclr a b : Nat) : Int)) :: rest))) : W p l e R s m args below meth c H locs cells slots Q (F0 m pc ls (.int (zI ta) :: .int (zI tb) :: rest)) := lv_iand C.1.1 C.1.2.1 hdg (by rw [ha, hb, Int32.and_comm, zI_andnot]; exact k)
end ZR8
def tzF : Nat → Nat → Nat
  | 0, _ => 0
  | f + 1, x => if x % 2 = 1 then 0 else tzF f (x / 2) + 1
def tz (x : Nat) : Nat := tzF 32 x
theorem tzF_spec : ∀ f x, 0 < x → x < 2 ^ f → tzF f x < f ∧ ∃ m, x = 2 ^ (tzF f x) * (2 * m + 1) := by
  intro f
  induction f with
  | zero => intro x h1 h2; simp at h2; omega
  | succ f ih =>
    intro x h1 h2
    simp only [tzF]
    by_cases c : x % 2 = 1
    · rw [if_pos c]
      exact ⟨by omega, x / 2, by rw [Nat.pow_zero, Nat.one_mul]; omega⟩
    · rw [if_neg c]
      rw [Nat.pow_succ] at h2
      obtain ⟨h3, m, h4⟩ := ih (x / 2) (by omega) (by omega)
      refine ⟨by omega, m, ?_⟩
      rw [Nat.pow_succ, show 2 ^ tzF f (x / 2) * 2 * (2 * m + 1) = 2 * (2 ^ tzF f (x / 2) * (2 * m + 1)) by rw [Nat.mul_comm (2 ^ tzF f (x / 2)), Nat.mul_assoc], ← h4]
      omega
theorem zclr_low {k m : Nat} : zclr (2 ^ k * (2 * m + 1) - 1) (2 ^ k * (2 * m + 1)) = 2 ^ k - 1 := by
  have hp := Nat.two_pow_pos k
  have e0 : 2 ^ k * (2 * m + 1) = 2 ^ (k + 1) * m + 2 ^ k := by
    rw [Nat.mul_add, Nat.mul_one, Nat.pow_succ, Nat.mul_assoc]
  have e1 : 2 ^ k * (2 * m + 1) - 1 = 2 ^ (k + 1) * m + (2 ^ k - 1) := by omega
  have b1 : 2 ^ k < 2 ^ (k + 1) := Nat.pow_lt_pow_right (by decide) (by omega)
  unfold zclr
  rw [e1, e0]
  apply Nat.eq_of_testBit_eq
  intro i
  rw [Nat.testBit_xor, Nat.testBit_and, Nat.testBit_two_pow_mul_add _ (show 2 ^ k - 1 < 2 ^ (k + 1) by omega), Nat.testBit_two_pow_mul_add _ b1, Nat.testBit_two_pow_sub_one]
  by_cases c : i < k + 1
  · rw [if_pos c, if_pos c, Nat.testBit_two_pow]
    by_cases d : i < k
    · rw [decide_eq_true d, decide_eq_false (show ¬ k = i by omega)]; rfl
    · rw [decide_eq_false d, Bool.false_and]; rfl
  · rw [if_neg c, if_neg c, decide_eq_false (show ¬ i < k by omega), Bool.and_self, Bool.xor_self]
theorem tz_spec {x : Nat} (h1 : 0 < x) (h2 : x < 65536) : tz x < 16 ∧ zclr (x - 1) x = 2 ^ tz x - 1 := by
  obtain ⟨h3, m, h4⟩ := tzF_spec 32 x h1 (by omega)
  have h5 : x = 2 ^ tz x * (2 * m + 1) := h4
  refine ⟨?_, ?_⟩
  · rcases Nat.lt_or_ge (tz x) 16 with q | q
    · exact q
    · have h6 : 2 ^ 16 ≤ 2 ^ tz x := Nat.pow_le_pow_right (by decide) q
      have h7 : 2 ^ tz x ≤ 2 ^ tz x * (2 * m + 1) := Nat.le_mul_of_pos_right _ (by omega)
      omega
  · have h6 := zclr_low (k := tz x) (m := m)
    rw [← h5] at h6
    exact h6
