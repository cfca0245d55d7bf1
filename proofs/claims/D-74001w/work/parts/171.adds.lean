/-! A POOLED LEVEL COUNTS ONE MORE STATE -/
theorem pl_nodup {A : Nat → Prop} {X : va_W} {L : List Nat} {E : Nat → va_E} (h : va_D A (X ++ va_pl L E)) : L.Nodup := by
  have h1 := (D_iff.mp h).1
  rw [List.pairwise_append] at h1
  have h2 := h1.2.1
  unfold va_pl at h2
  rw [List.pairwise_map] at h2
  exact h2
section ZAD
variable {p : Program} {l : Launch} {e : Env} {R : Room} {s : State} {m : MethodId} {args : Array Value} {below : List Frame} {meth : Method} {c : Code} {H : Heap} {locs : List Loc} {cells slots : Nat} {Q : State → Prop}
variable {cc : ByteArray} {nL : Nat} {own : String} {D : va_G} {dA : Nat → ClassId} {pc : Nat} {ls : Array Slot} {rest : List Value} {A : Nat → Prop} {ws X : va_W} {index : Nat} {H0 : Heap}
variable {LL : List Nat} {ge : Nat → Int} {gf gm gw gt : Nat → Nat} {y k : Nat}
theorem z_adds (C : zC p s m args c cc nL own D dA) (hP : va_P D vwCl ws H) (hD : va_D A ws) (hS : va_S A H0 H locs) (hA : ∀ q, H0.size ≤ q → A q) (hp : ws.Perm (X ++ va_pl LL (lvE ge gf gm gw gt))) (hy : y ∈ LL) (h1 : gw y ≤ 100) (h2 : gt y ≤ 100) (h3 : k ≤ 100) (hw : GoodIn lw_all (wsV own index "SpinStrip$Level" yX10_adds (ws_ yX10_adds cX10_adds 2 none)))
    (hRm : 2 ≤ R.frames ∧ 45 ≤ R.locals) (hz : ls.size = nL) (hroom : (rest.map fun v => v.category).sum ≤ 8) (hdg : decode cc pc = .ok (.invokevirtual index, 3)) (hcells : cells ≤ R.cells) (hslots : slots ≤ R.slots)
    (kk : ∀ (H1 : Heap) (locs1 : List Loc), va_P D vwCl (X ++ va_pl LL (lvE ge gf (va_up gm y (gm y + 1)) (va_up gw y (min (gw y) k)) (va_up gt y (max (gt y) k)))) H1 → va_D A (X ++ va_pl LL (lvE ge gf (va_up gm y (gm y + 1)) (va_up gw y (min (gw y) k)) (va_up gt y (max (gt y) k)))) → va_S A H0 H1 locs1 → W p l e R s m args below meth c H1 locs1 cells slots Q (F0 m (pc + 3) ls rest)) : W p l e R s m args below meth c H locs cells slots Q (F0 m pc ls (.int (zI ((k : Nat) : Int)) :: .ref y :: rest)) := by
  have hn := pl_nodup (D_perm hp hD)
  have ht := pl_take (E := lvE ge gf gm gw gt) hy
  have hq : ws.Perm ((X ++ va_pl (LL.erase y) (lvE ge gf gm gw gt)) ++ [(y, lvE ge gf gm gw gt y)]) := hp.trans (perm_ct (fun p9 => by
    have t9 := ht.countP_eq p9
    simp only [List.countP_append, List.countP_cons, List.countP_nil] at t9 ⊢
    omega))
  refine z_gVq (X := X ++ va_pl (LL.erase y) (lvE ge gf gm gw gt)) (Y := [(y, lvE ge gf gm gw gt y)]) (n := 1) (As := [.int (zI ((k : Nat) : Int))]) (rest := rest) C hP hD hS hA hq (k_X10_adds l D dA y (ge y) (gf y) (gm y) (gw y) (gt y) k h1 h2 h3) hw (by decide +kernel) rfl ⟨?_, ?_⟩ hz (ci := 10) (hp.mem_iff.mpr (List.mem_append_right _ (List.mem_map.mpr ⟨y, hy, rfl⟩))) rfl rfl hroom hdg ?_ ?_ (fun _ H1 l1 _ a2 a3 a4 => ?_)
  · show 1 + 1 ≤ R.frames; omega
  · show 8 + (2 + 11) + 24 ≤ R.locals; omega
  · exact hcells
  · exact hslots
  · have hu := pl_put (L := LL) (E := lvE ge gf gm gw gt) (E' := lvE ge gf (va_up gm y (gm y + 1)) (va_up gw y (min (gw y) k)) (va_up gt y (max (gt y) k))) (a := y) (v := .inr (10, [.int (zI (ge y)), .int (zI ((gf y : Nat) : Int)), .int (zI ((gm y + 1 : Nat) : Int)), .int (zI ((min (gw y) k : Nat) : Int)), .int (zI ((max (gt y) k : Nat) : Int))])) hy hn (by simp only [lvE, va_upe]) (fun q h => by simp only [lvE, va_upn h])
    have hq2 := perm_ct (l1 := (X ++ va_pl (LL.erase y) (lvE ge gf gm gw gt)) ++ [((y, .inr (10, [.int (zI (ge y)), .int (zI ((gf y : Nat) : Int)), .int (zI ((gm y + 1 : Nat) : Int)), .int (zI ((min (gw y) k : Nat) : Int)), .int (zI ((max (gt y) k : Nat) : Int))])) : Nat × va_E)]) (l2 := X ++ va_pl LL (lvE ge gf (va_up gm y (gm y + 1)) (va_up gw y (min (gw y) k)) (va_up gt y (max (gt y) k)))) (fun p9 => by
      have t9 := hu.countP_eq p9
      simp only [List.countP_append, List.countP_cons, List.countP_nil] at t9 ⊢
      omega)
    exact kk H1 l1 (P_perm hq2 a2) (D_perm hq2 a3) a4
end ZAD
