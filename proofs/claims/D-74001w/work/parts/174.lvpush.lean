/-! A NEW LEVEL COMES INTO THE POOL -/
theorem lv_push {LL : List Nat} {ge : Nat → Int} {gf gm gw gt : Nat → Nat} {q f0 m0 w0 t0 : Nat} {v : Int} (h : q ∉ LL) : va_pl LL (lvE ge gf gm gw gt) ++ [(q, .inr (10, [.int (zI v), .int (zI ((f0 : Nat) : Int)), .int (zI ((m0 : Nat) : Int)), .int (zI ((w0 : Nat) : Int)), .int (zI ((t0 : Nat) : Int))]))] = va_pl (LL ++ [q]) (lvE (va_up ge q v) (va_up gf q f0) (va_up gm q m0) (va_up gw q w0) (va_up gt q t0)) := by
  rw [va_pl_push h]
  apply va_pl_congr
  intro a
  unfold va_up
  by_cases z : a = q
  · subst z; simp [lvE]
  · simp [lvE, z]
/-- what lies in a pool lies nowhere else -/
theorem D_notin {A : Nat → Prop} {ws X : va_W} {L : List Nat} {E : Nat → va_E} {q : Nat} {e9 : va_E} (hp : ws.Perm (((q, e9) :: X) ++ va_pl L E)) (h : va_D A ws) : q ∉ L := by
  intro hq
  have h1 := (D_iff.mp (D_perm hp h)).1
  rw [List.pairwise_append] at h1
  exact h1.2.2 (q, e9) List.mem_cons_self (q, E q) (List.mem_map.mpr ⟨q, hq, rfl⟩) rfl
/-- a new level, as a permutation of the world -/
theorem lv_perm {X : va_W} {LL : List Nat} {ge : Nat → Int} {gf gm gw gt : Nat → Nat} {q f0 m0 w0 t0 : Nat} {v : Int} (h : q ∉ LL) : (((q, .inr (10, [.int (zI v), .int (zI ((f0 : Nat) : Int)), .int (zI ((m0 : Nat) : Int)), .int (zI ((w0 : Nat) : Int)), .int (zI ((t0 : Nat) : Int))])) :: X) ++ va_pl LL (lvE ge gf gm gw gt)).Perm (X ++ va_pl (LL ++ [q]) (lvE (va_up ge q v) (va_up gf q f0) (va_up gm q m0) (va_up gw q w0) (va_up gt q t0))) := by
  rw [← lv_push h]
  exact perm_ct (fun p9 => by simp only [List.countP_append, List.countP_cons, List.countP_nil] <;> omega)
