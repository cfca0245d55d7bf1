set_option maxHeartbeats 600000 in
set_option maxRecDepth 100000 in
theorem k_X9_leads_big (l : Launch) (D : va_G) (dA : Nat → ClassId) (k : Nat) (al : Bool) (w le : Nat) (ring : Bool) (hw9 : w ≤ 10000) (hl9 : le ≤ 10000) (hk9 : k ≤ 10000) (hk : k < w * le) : zM l yX9_leads cX9_leads 7 (some .int) (zRm 0 0) D dA [.int (zI ((k : Nat) : Int)), .int (zB (al)), .int (zI ((w : Nat) : Int)), .int (zI ((le : Nat) : Int)), .int (zB (ring))] [] (some (.int (zI (othB w le k al ring)))) := by
  refine zM.of (by decide +kernel) rfl ?_
  intro pp ee ss mm args below meth cd Q C hr hlk hQ hP ls hl
  have hx := C.1.1
  have hb := C.1.2.1
  have hl : lv_has ls 7 [(0, .int (zI ((k : Nat) : Int))), (1, .int (zB (al))), (2, .int (zI ((w : Nat) : Int))), (3, .int (zI ((le : Nat) : Int))), (4, .int (zB (ring)))] := hl
  obtain ⟨g1, g2, g3, g4, g5, g6⟩ := kw_lt hk
  refine lv_iload_n hx hb dX9_leads_0 rfl (lv_at hl 0 rfl) ?_
  refine lv_iload_n hx hb dX9_leads_1 rfl (lv_at hl 2 rfl) ?_
  refine z_idivN C (k) (w) rfl rfl (by omega) ⟨by omega, by omega⟩ dX9_leads_2 ?_
  refine z_nmN (fun rw_1 e_rw_1 => ?_)
  refine lv_istore (lv' := [(5, .int (zI ((rw_1 : Nat) : Int))), (0, .int (zI ((k : Nat) : Int))), (1, .int (zB (al))), (2, .int (zI ((w : Nat) : Int))), (3, .int (zI ((le : Nat) : Int))), (4, .int (zB (ring)))]) hx hb dX9_leads_3 hl (by decide) rfl (fun ls hl => ?_)
  refine lv_iload_n hx hb dX9_leads_5 rfl (lv_at hl 1 rfl) ?_
  refine lv_iload_n hx hb dX9_leads_6 rfl (lv_at hl 3 rfl) ?_
  refine z_iremN C (k) (w) rfl rfl (by omega) ⟨by omega, by omega⟩ dX9_leads_7 ?_
  refine z_nmN (fun cl_2 e_cl_2 => ?_)
  refine lv_istore (lv' := [(6, .int (zI ((cl_2 : Nat) : Int))), (5, .int (zI ((rw_1 : Nat) : Int))), (0, .int (zI ((k : Nat) : Int))), (1, .int (zB (al))), (2, .int (zI ((w : Nat) : Int))), (3, .int (zI ((le : Nat) : Int))), (4, .int (zB (ring)))]) hx hb dX9_leads_8 hl (by decide) rfl (fun ls hl => ?_)
  have hrw : rw_1 ≤ k := by rw [e_rw_1]; exact Nat.div_le_self _ _
  have hcl : cl_2 < w := by rw [e_cl_2]; exact g4
  clear g3 g4 g5 g6
  refine lv_iload_n hx hb dX9_leads_10 rfl (lv_at hl 3 rfl) ?_
  refine z_if_eqB (tgt := 45) C dX9_leads_11 (by decide) (fun c_11 => ?_) (fun c_11 => ?_)
  · refine lv_iload hx hb dX9_leads_45 (lv_at hl 0 rfl) ?_
    refine z_iconst C dX9_leads_47 ?_
    refine z_iaddN C (cl_2) (1) rfl rfl dX9_leads_48 ?_
    refine lv_iload_n hx hb dX9_leads_49 rfl (lv_at hl 4 rfl) ?_
    refine z_icmp_ge (tgt := 59) C ⟨by omega, by omega⟩ ⟨by omega, by omega⟩ dX9_leads_50 (by decide) (fun c_50 => ?_) (fun c_50 => ?_)
    · refine lv_iload hx hb dX9_leads_59 (lv_at hl 6 rfl) ?_
      refine z_if_eqB (tgt := 76) C dX9_leads_61 (by decide) (fun c_61 => ?_) (fun c_61 => ?_)
      · refine z_iconst C dX9_leads_76 ?_
        exact z_iret C hlk hr hQ (by subst c_11; first | (rw [othB_1 (by omega)]; done) | (rw [othB_2 (by omega) (by assumption) (by omega), e_cl_2]; done) | (rw [othB_3 (by omega) (by assumption)]; done) | (rw [othB_4 (by omega) (by omega)]; done) | (rw [othB_5 (by omega)]; done) | (rw [othB_6 (by omega) (by assumption) (by omega), e_rw_1]; done) | (rw [othB_7 (by omega) (by assumption)]; done) | (rw [othB_8 (by omega) (by omega)]; done)) dX9_leads_77
      · refine lv_iload_n hx hb dX9_leads_64 rfl (lv_at hl 4 rfl) ?_
        refine z_iconst C dX9_leads_65 ?_
        refine z_icmp_le (tgt := 76) C ⟨by omega, by omega⟩ ⟨by decide, by decide⟩ dX9_leads_66 (by decide) (fun c_66 => ?_) (fun c_66 => ?_)
        · refine z_iconst C dX9_leads_76 ?_
          exact z_iret C hlk hr hQ (by subst c_11; first | (rw [othB_1 (by omega)]; done) | (rw [othB_2 (by omega) (by assumption) (by omega), e_cl_2]; done) | (rw [othB_3 (by omega) (by assumption)]; done) | (rw [othB_4 (by omega) (by omega)]; done) | (rw [othB_5 (by omega)]; done) | (rw [othB_6 (by omega) (by assumption) (by omega), e_rw_1]; done) | (rw [othB_7 (by omega) (by assumption)]; done) | (rw [othB_8 (by omega) (by omega)]; done)) dX9_leads_77
        · refine lv_iload_n hx hb dX9_leads_69 rfl (lv_at hl 4 rfl) ?_
          refine lv_iload hx hb dX9_leads_70 (lv_at hl 1 rfl) ?_
          have hrm : w * rw_1 ≤ k := by rw [e_rw_1]; exact Nat.mul_div_le _ _
          refine z_imulN C (w) (rw_1) rfl rfl dX9_leads_72 ?_
          refine lv_goto (tgt := 77) hx hb dX9_leads_73 (by decide) ?_
          exact z_iret C hlk hr hQ (by subst c_11; first | (rw [othB_1 (by omega)]; done) | (rw [othB_2 (by omega) (by assumption) (by omega), e_cl_2]; done) | (rw [othB_3 (by omega) (by assumption)]; done) | (rw [othB_4 (by omega) (by omega)]; done) | (rw [othB_5 (by omega)]; done) | (rw [othB_6 (by omega) (by assumption) (by omega), e_rw_1]; done) | (rw [othB_7 (by omega) (by assumption)]; done) | (rw [othB_8 (by omega) (by omega)]; done)) dX9_leads_77
    · refine lv_iload_n hx hb dX9_leads_53 rfl (lv_at hl 2 rfl) ?_
      refine z_iconst C dX9_leads_54 ?_
      refine z_iaddN C (k) (1) rfl rfl dX9_leads_55 ?_
      refine lv_goto (tgt := 77) hx hb dX9_leads_56 (by decide) ?_
      exact z_iret C hlk hr hQ (by subst c_11; first | (rw [othB_1 (by omega)]; done) | (rw [othB_2 (by omega) (by assumption) (by omega), e_cl_2]; done) | (rw [othB_3 (by omega) (by assumption)]; done) | (rw [othB_4 (by omega) (by omega)]; done) | (rw [othB_5 (by omega)]; done) | (rw [othB_6 (by omega) (by assumption) (by omega), e_rw_1]; done) | (rw [othB_7 (by omega) (by assumption)]; done) | (rw [othB_8 (by omega) (by omega)]; done)) dX9_leads_77
  · refine lv_iload hx hb dX9_leads_14 (lv_at hl 1 rfl) ?_
    refine z_iconst C dX9_leads_16 ?_
    refine z_iaddN C (rw_1) (1) rfl rfl dX9_leads_17 ?_
    refine lv_iload_n hx hb dX9_leads_18 rfl (lv_at hl 5 rfl) ?_
    refine z_icmp_ge (tgt := 28) C ⟨by omega, by omega⟩ ⟨by omega, by omega⟩ dX9_leads_19 (by decide) (fun c_19 => ?_) (fun c_19 => ?_)
    · refine lv_iload hx hb dX9_leads_28 (lv_at hl 6 rfl) ?_
      refine z_if_eqB (tgt := 43) C dX9_leads_30 (by decide) (fun c_30 => ?_) (fun c_30 => ?_)
      · refine z_iconst C dX9_leads_43 ?_
        exact z_iret C hlk hr hQ (by subst c_11; first | (rw [othB_1 (by omega)]; done) | (rw [othB_2 (by omega) (by assumption) (by omega), e_cl_2]; done) | (rw [othB_3 (by omega) (by assumption)]; done) | (rw [othB_4 (by omega) (by omega)]; done) | (rw [othB_5 (by omega)]; done) | (rw [othB_6 (by omega) (by assumption) (by omega), e_rw_1]; done) | (rw [othB_7 (by omega) (by assumption)]; done) | (rw [othB_8 (by omega) (by omega)]; done)) dX9_leads_44
      · refine lv_iload_n hx hb dX9_leads_33 rfl (lv_at hl 5 rfl) ?_
        refine z_iconst C dX9_leads_34 ?_
        refine z_icmp_le (tgt := 43) C ⟨by omega, by omega⟩ ⟨by decide, by decide⟩ dX9_leads_35 (by decide) (fun c_35 => ?_) (fun c_35 => ?_)
        · refine z_iconst C dX9_leads_43 ?_
          exact z_iret C hlk hr hQ (by subst c_11; first | (rw [othB_1 (by omega)]; done) | (rw [othB_2 (by omega) (by assumption) (by omega), e_cl_2]; done) | (rw [othB_3 (by omega) (by assumption)]; done) | (rw [othB_4 (by omega) (by omega)]; done) | (rw [othB_5 (by omega)]; done) | (rw [othB_6 (by omega) (by assumption) (by omega), e_rw_1]; done) | (rw [othB_7 (by omega) (by assumption)]; done) | (rw [othB_8 (by omega) (by omega)]; done)) dX9_leads_44
        · refine lv_iload hx hb dX9_leads_38 (lv_at hl 0 rfl) ?_
          refine lv_goto (tgt := 44) hx hb dX9_leads_40 (by decide) ?_
          exact z_iret C hlk hr hQ (by subst c_11; first | (rw [othB_1 (by omega)]; done) | (rw [othB_2 (by omega) (by assumption) (by omega), e_cl_2]; done) | (rw [othB_3 (by omega) (by assumption)]; done) | (rw [othB_4 (by omega) (by omega)]; done) | (rw [othB_5 (by omega)]; done) | (rw [othB_6 (by omega) (by assumption) (by omega), e_rw_1]; done) | (rw [othB_7 (by omega) (by assumption)]; done) | (rw [othB_8 (by omega) (by omega)]; done)) dX9_leads_44
    · refine lv_iload_n hx hb dX9_leads_22 rfl (lv_at hl 2 rfl) ?_
      refine lv_iload_n hx hb dX9_leads_23 rfl (lv_at hl 4 rfl) ?_
      refine z_iaddN C (k) (w) rfl rfl dX9_leads_24 ?_
      refine lv_goto (tgt := 44) hx hb dX9_leads_25 (by decide) ?_
      exact z_iret C hlk hr hQ (by subst c_11; first | (rw [othB_1 (by omega)]; done) | (rw [othB_2 (by omega) (by assumption) (by omega), e_cl_2]; done) | (rw [othB_3 (by omega) (by assumption)]; done) | (rw [othB_4 (by omega) (by omega)]; done) | (rw [othB_5 (by omega)]; done) | (rw [othB_6 (by omega) (by assumption) (by omega), e_rw_1]; done) | (rw [othB_7 (by omega) (by assumption)]; done) | (rw [othB_8 (by omega) (by omega)]; done)) dX9_leads_44
set_option maxHeartbeats 600000 in
set_option maxRecDepth 100000 in
theorem k_X9_wrong (l : Launch) (D : va_G) (dA : Nat → ClassId) (a : Nat) (v0 v1 v2 v3 v4 v8 v9 v11 v13 v16 v17 v18 v19 v20 v21 v27 v28 v29 v30 v31 v32 v33 v34 v35 v36 v37 v38 v39 v40 v41 v42 v43 v44 : Value) (qk qp qu qf ft w le tk : Nat) (ra rl : Bool) (pf : Nat → Int) (g : Nat × Int) (k tn : Nat) (hft : ft = 0) (hg : wOk g) (bp : ∀ j, 0 ≤ pf j ∧ pf j ≤ 2000) (hk4 : k ≤ 4) (htn : tn < 403) : zG (S := Nat × Int) l yX9_wrong cX9_wrong 4 (none) (zRmW 0 0 0 0) D dA [.ref (a), .int (zI ((k : Nat) : Int)), .int (zI ((tn : Nat) : Int))] [(a, .inr (9, [v0, v1, v2, v3, v4, .ref (qk), .ref (qp), .ref (qu), v8, v9, .int (zI ((tk : Nat) : Int)), v11, .int (zI ((ft : Nat) : Int)), v13, .int (zI ((g.1 : Nat) : Int)), .int (zI (g.2)), v16, v17, v18, v19, v20, v21, .int (zI ((w : Nat) : Int)), .int (zI ((le : Nat) : Int)), .int (zB (ra)), .int (zB (rl)), .ref (qf), v27, v28, v29, v30, v31, v32, v33, v34, v35, v36, v37, v38, v39, v40, v41, v42, v43, v44])), (qp, .inl (dA 3, 403, .inl (fun jz => zI (pf jz))))] (fun u : Nat × Int => none) (fun u : Nat × Int => u = wG pf k tn g ∧ wOk u) (fun u : Nat × Int => [(a, .inr (9, [v0, v1, v2, v3, v4, .ref (qk), .ref (qp), .ref (qu), v8, v9, .int (zI ((tk : Nat) : Int)), v11, .int (zI ((ft : Nat) : Int)), v13, .int (zI ((u.1 : Nat) : Int)), .int (zI (u.2)), v16, v17, v18, v19, v20, v21, .int (zI ((w : Nat) : Int)), .int (zI ((le : Nat) : Int)), .int (zB (ra)), .int (zB (rl)), .ref (qf), v27, v28, v29, v30, v31, v32, v33, v34, v35, v36, v37, v38, v39, v40, v41, v42, v43, v44])), (qp, .inl (dA 3, 403, .inl (fun jz => zI (pf jz))))]) := by
  refine zG.of (by decide +kernel) rfl ?_
  intro pp ee ss mm args below meth cd Q A C hr hlk hQ hA hin H locs hP hD hS ls hl
  have hx := C.1.1
  have hb := C.1.2.1
  have hl : lv_has ls 4 [(0, .ref (a)), (1, .int (zI ((k : Nat) : Int))), (2, .int (zI ((tn : Nat) : Int)))] := hl
  have ok9 := hg
  unfold wOk at ok9
  have bp9 := bp tn
  refine lv_aload_n hx hb dX9_wrong_0 rfl (lv_at hl 0 rfl) ?_
  refine z_get C hP 0 rfl rfl in_X9 6 (by decide) q1890 rfl dX9_wrong_1 ?_
  refine lv_iload_n hx hb dX9_wrong_4 rfl (lv_at hl 2 rfl) ?_
  refine z_iald C hP 1 rfl (tn) rfl (by omega) (by decide) dX9_wrong_5 ?_
  refine z_nm (fun pv_1 e_pv_1 => ?_)
  rw [← e_pv_1] at bp9
  refine lv_istore_n (lv' := [(3, .int (zI (pv_1))), (0, .ref (a)), (1, .int (zI ((k : Nat) : Int))), (2, .int (zI ((tn : Nat) : Int)))]) hx hb dX9_wrong_6 rfl hl (by decide) rfl (fun ls hl => ?_)
  refine lv_aload_n hx hb dX9_wrong_7 rfl (lv_at hl 1 rfl) ?_
  refine z_get C hP 0 rfl rfl in_X9 12 (by decide) q1896 rfl dX9_wrong_8 ?_
  refine z_if_gt (tgt := 45) C ⟨by omega, by omega⟩ dX9_wrong_11 (by decide) (fun c_11 => ?_) (fun c_11 => ?_)
  · exact absurd c_11 (by omega)
  · refine lv_aload_n hx hb dX9_wrong_14 rfl (lv_at hl 1 rfl) ?_
    refine z_get C hP 0 rfl rfl in_X9 14 (by decide) q1898 rfl dX9_wrong_15 ?_
    refine z_if_eq (tgt := 46) C ⟨by omega, by omega⟩ dX9_wrong_18 (by decide) (fun c_18 => ?_) (fun c_18 => ?_)
    · have e9 : wG pf k tn g = (k, pv_1) := by unfold wG; rw [if_neg (by omega), e_pv_1]
      have ok8 : wOk (k, pv_1) := ⟨by dsimp only; omega, by dsimp only; omega, by dsimp only; omega⟩
      refine lv_aload_n hx hb dX9_wrong_46 rfl (lv_at hl 1 rfl) ?_
      refine lv_iload_n hx hb dX9_wrong_47 rfl (lv_at hl 2 rfl) ?_
      refine z_put C hP hD hS 0 rfl rfl in_X9 tyX9_ok nmX9 14 (by decide) q1898 rfl (v := .int (zI ((k : Nat) : Int))) rfl rfl (Nat.le_of_ble_eq_true rfl) (ws' := [(a, .inr (9, [v0, v1, v2, v3, v4, .ref (qk), .ref (qp), .ref (qu), v8, v9, .int (zI ((tk : Nat) : Int)), v11, .int (zI ((ft : Nat) : Int)), v13, .int (zI ((k : Nat) : Int)), .int (zI (g.2)), v16, v17, v18, v19, v20, v21, .int (zI ((w : Nat) : Int)), .int (zI ((le : Nat) : Int)), .int (zB (ra)), .int (zB (rl)), .ref (qf), v27, v28, v29, v30, v31, v32, v33, v34, v35, v36, v37, v38, v39, v40, v41, v42, v43, v44])), (qp, .inl (dA 3, 403, .inl (fun jz => zI (pf jz))))]) rfl dX9_wrong_48 (fun H locs hP hD hS => ?_)
      refine lv_aload_n hx hb dX9_wrong_51 rfl (lv_at hl 1 rfl) ?_
      refine lv_iload_n hx hb dX9_wrong_52 rfl (lv_at hl 0 rfl) ?_
      refine z_put C hP hD hS 0 rfl rfl in_X9 tyX9_ok nmX9 15 (by decide) q1899 rfl (v := .int (zI (pv_1))) rfl rfl (Nat.le_of_ble_eq_true rfl) (ws' := [(a, .inr (9, [v0, v1, v2, v3, v4, .ref (qk), .ref (qp), .ref (qu), v8, v9, .int (zI ((tk : Nat) : Int)), v11, .int (zI ((ft : Nat) : Int)), v13, .int (zI ((k : Nat) : Int)), .int (zI (pv_1)), v16, v17, v18, v19, v20, v21, .int (zI ((w : Nat) : Int)), .int (zI ((le : Nat) : Int)), .int (zB (ra)), .int (zB (rl)), .ref (qf), v27, v28, v29, v30, v31, v32, v33, v34, v35, v36, v37, v38, v39, v40, v41, v42, v43, v44])), (qp, .inl (dA 3, 403, .inl (fun jz => zI (pf jz))))]) rfl dX9_wrong_53 (fun H locs hP hD hS => ?_)
      exact z_vretG C hlk hr hQ ((k, (pv_1))) rfl ⟨e9.symm, ok8⟩ (hP.sub [0, 1] rfl) (hD.sub [0, 1] (by decide) rfl) hS (Nat.le_of_ble_eq_true rfl) (Nat.le_of_ble_eq_true rfl) dX9_wrong_56
    · refine lv_iload_n hx hb dX9_wrong_21 rfl (lv_at hl 0 rfl) ?_
      refine lv_aload_n hx hb dX9_wrong_22 rfl (lv_at hl 1 rfl) ?_
      refine z_get C hP 0 rfl rfl in_X9 15 (by decide) q1899 rfl dX9_wrong_23 ?_
      refine z_icmp_gt (tgt := 45) C ⟨by omega, by omega⟩ ⟨by omega, by omega⟩ dX9_wrong_26 (by decide) (fun c_26 => ?_) (fun c_26 => ?_)
      · have e9 : wG pf k tn g = g := by unfold wG; rw [if_pos (by omega)]
        have ok8 := hg
        exact z_vretG C hlk hr hQ (g) rfl ⟨e9.symm, ok8⟩ (hP.sub [0, 1] rfl) (hD.sub [0, 1] (by decide) rfl) hS (Nat.le_of_ble_eq_true rfl) (Nat.le_of_ble_eq_true rfl) dX9_wrong_45
      · refine lv_iload_n hx hb dX9_wrong_29 rfl (lv_at hl 0 rfl) ?_
        refine lv_aload_n hx hb dX9_wrong_30 rfl (lv_at hl 1 rfl) ?_
        refine z_get C hP 0 rfl rfl in_X9 15 (by decide) q1899 rfl dX9_wrong_31 ?_
        refine z_icmp_ne (tgt := 46) C ⟨by omega, by omega⟩ ⟨by omega, by omega⟩ dX9_wrong_34 (by decide) (fun c_34 => ?_) (fun c_34 => ?_)
        · have e9 : wG pf k tn g = (k, pv_1) := by unfold wG; rw [if_neg (by omega), e_pv_1]
          have ok8 : wOk (k, pv_1) := ⟨by dsimp only; omega, by dsimp only; omega, by dsimp only; omega⟩
          refine lv_aload_n hx hb dX9_wrong_46 rfl (lv_at hl 1 rfl) ?_
          refine lv_iload_n hx hb dX9_wrong_47 rfl (lv_at hl 2 rfl) ?_
          refine z_put C hP hD hS 0 rfl rfl in_X9 tyX9_ok nmX9 14 (by decide) q1898 rfl (v := .int (zI ((k : Nat) : Int))) rfl rfl (Nat.le_of_ble_eq_true rfl) (ws' := [(a, .inr (9, [v0, v1, v2, v3, v4, .ref (qk), .ref (qp), .ref (qu), v8, v9, .int (zI ((tk : Nat) : Int)), v11, .int (zI ((ft : Nat) : Int)), v13, .int (zI ((k : Nat) : Int)), .int (zI (g.2)), v16, v17, v18, v19, v20, v21, .int (zI ((w : Nat) : Int)), .int (zI ((le : Nat) : Int)), .int (zB (ra)), .int (zB (rl)), .ref (qf), v27, v28, v29, v30, v31, v32, v33, v34, v35, v36, v37, v38, v39, v40, v41, v42, v43, v44])), (qp, .inl (dA 3, 403, .inl (fun jz => zI (pf jz))))]) rfl dX9_wrong_48 (fun H locs hP hD hS => ?_)
          refine lv_aload_n hx hb dX9_wrong_51 rfl (lv_at hl 1 rfl) ?_
          refine lv_iload_n hx hb dX9_wrong_52 rfl (lv_at hl 0 rfl) ?_
          refine z_put C hP hD hS 0 rfl rfl in_X9 tyX9_ok nmX9 15 (by decide) q1899 rfl (v := .int (zI (pv_1))) rfl rfl (Nat.le_of_ble_eq_true rfl) (ws' := [(a, .inr (9, [v0, v1, v2, v3, v4, .ref (qk), .ref (qp), .ref (qu), v8, v9, .int (zI ((tk : Nat) : Int)), v11, .int (zI ((ft : Nat) : Int)), v13, .int (zI ((k : Nat) : Int)), .int (zI (pv_1)), v16, v17, v18, v19, v20, v21, .int (zI ((w : Nat) : Int)), .int (zI ((le : Nat) : Int)), .int (zB (ra)), .int (zB (rl)), .ref (qf), v27, v28, v29, v30, v31, v32, v33, v34, v35, v36, v37, v38, v39, v40, v41, v42, v43, v44])), (qp, .inl (dA 3, 403, .inl (fun jz => zI (pf jz))))]) rfl dX9_wrong_53 (fun H locs hP hD hS => ?_)
          exact z_vretG C hlk hr hQ ((k, (pv_1))) rfl ⟨e9.symm, ok8⟩ (hP.sub [0, 1] rfl) (hD.sub [0, 1] (by decide) rfl) hS (Nat.le_of_ble_eq_true rfl) (Nat.le_of_ble_eq_true rfl) dX9_wrong_56
        · refine lv_iload_n hx hb dX9_wrong_37 rfl (lv_at hl 2 rfl) ?_
          refine lv_aload_n hx hb dX9_wrong_38 rfl (lv_at hl 1 rfl) ?_
          refine z_get C hP 0 rfl rfl in_X9 14 (by decide) q1898 rfl dX9_wrong_39 ?_
          refine z_icmp_lt (tgt := 46) C ⟨by omega, by omega⟩ ⟨by omega, by omega⟩ dX9_wrong_42 (by decide) (fun c_42 => ?_) (fun c_42 => ?_)
          · have e9 : wG pf k tn g = (k, pv_1) := by unfold wG; rw [if_neg (by omega), e_pv_1]
            have ok8 : wOk (k, pv_1) := ⟨by dsimp only; omega, by dsimp only; omega, by dsimp only; omega⟩
            refine lv_aload_n hx hb dX9_wrong_46 rfl (lv_at hl 1 rfl) ?_
            refine lv_iload_n hx hb dX9_wrong_47 rfl (lv_at hl 2 rfl) ?_
            refine z_put C hP hD hS 0 rfl rfl in_X9 tyX9_ok nmX9 14 (by decide) q1898 rfl (v := .int (zI ((k : Nat) : Int))) rfl rfl (Nat.le_of_ble_eq_true rfl) (ws' := [(a, .inr (9, [v0, v1, v2, v3, v4, .ref (qk), .ref (qp), .ref (qu), v8, v9, .int (zI ((tk : Nat) : Int)), v11, .int (zI ((ft : Nat) : Int)), v13, .int (zI ((k : Nat) : Int)), .int (zI (g.2)), v16, v17, v18, v19, v20, v21, .int (zI ((w : Nat) : Int)), .int (zI ((le : Nat) : Int)), .int (zB (ra)), .int (zB (rl)), .ref (qf), v27, v28, v29, v30, v31, v32, v33, v34, v35, v36, v37, v38, v39, v40, v41, v42, v43, v44])), (qp, .inl (dA 3, 403, .inl (fun jz => zI (pf jz))))]) rfl dX9_wrong_48 (fun H locs hP hD hS => ?_)
            refine lv_aload_n hx hb dX9_wrong_51 rfl (lv_at hl 1 rfl) ?_
            refine lv_iload_n hx hb dX9_wrong_52 rfl (lv_at hl 0 rfl) ?_
            refine z_put C hP hD hS 0 rfl rfl in_X9 tyX9_ok nmX9 15 (by decide) q1899 rfl (v := .int (zI (pv_1))) rfl rfl (Nat.le_of_ble_eq_true rfl) (ws' := [(a, .inr (9, [v0, v1, v2, v3, v4, .ref (qk), .ref (qp), .ref (qu), v8, v9, .int (zI ((tk : Nat) : Int)), v11, .int (zI ((ft : Nat) : Int)), v13, .int (zI ((k : Nat) : Int)), .int (zI (pv_1)), v16, v17, v18, v19, v20, v21, .int (zI ((w : Nat) : Int)), .int (zI ((le : Nat) : Int)), .int (zB (ra)), .int (zB (rl)), .ref (qf), v27, v28, v29, v30, v31, v32, v33, v34, v35, v36, v37, v38, v39, v40, v41, v42, v43, v44])), (qp, .inl (dA 3, 403, .inl (fun jz => zI (pf jz))))]) rfl dX9_wrong_53 (fun H locs hP hD hS => ?_)
            exact z_vretG C hlk hr hQ ((k, (pv_1))) rfl ⟨e9.symm, ok8⟩ (hP.sub [0, 1] rfl) (hD.sub [0, 1] (by decide) rfl) hS (Nat.le_of_ble_eq_true rfl) (Nat.le_of_ble_eq_true rfl) dX9_wrong_56
          · have e9 : wG pf k tn g = g := by unfold wG; rw [if_pos (by omega)]
            have ok8 := hg
            exact z_vretG C hlk hr hQ (g) rfl ⟨e9.symm, ok8⟩ (hP.sub [0, 1] rfl) (hD.sub [0, 1] (by decide) rfl) hS (Nat.le_of_ble_eq_true rfl) (Nat.le_of_ble_eq_true rfl) dX9_wrong_45
set_option maxHeartbeats 600000 in
set_option maxRecDepth 100000 in
theorem k_X9_jAt (l : Launch) (D : va_G) (dA : Nat → ClassId) (a : Nat) (v0 v1 v2 v3 v4 v8 v9 v11 v13 v16 v17 v18 v19 v20 v21 v27 v28 v29 v30 v31 v32 v33 v34 v35 v36 v37 v38 v39 v40 v41 v42 v43 v44 : Value) (qk qp qu qf ft w le tk : Nat) (ra rl : Bool) (kf pf uf : Nat → Int) (g : Nat × Int) (tn : Nat) (hft : ft = 0) (hg : wOk g) (bk : ∀ j, 0 ≤ kf j ∧ kf j ≤ 30) (bp : ∀ j, 0 ≤ pf j ∧ pf j ≤ 2000) (bu : ∀ j, 0 ≤ uf j ∧ uf j ≤ 9999) (htn : tn < 402) : zG (S := Nat × Int) l yX9_jAt cX9_jAt 3 (some .int) (zRmW 1 23 0 0) D dA [.ref (a), .int (zI ((tn : Nat) : Int))] [(a, .inr (9, [v0, v1, v2, v3, v4, .ref (qk), .ref (qp), .ref (qu), v8, v9, .int (zI ((tk : Nat) : Int)), v11, .int (zI ((ft : Nat) : Int)), v13, .int (zI ((g.1 : Nat) : Int)), .int (zI (g.2)), v16, v17, v18, v19, v20, v21, .int (zI ((w : Nat) : Int)), .int (zI ((le : Nat) : Int)), .int (zB (ra)), .int (zB (rl)), .ref (qf), v27, v28, v29, v30, v31, v32, v33, v34, v35, v36, v37, v38, v39, v40, v41, v42, v43, v44])), (qk, .inl (dA 3, 403, .inl (fun jz => zI (kf jz)))), (qp, .inl (dA 3, 403, .inl (fun jz => zI (pf jz)))), (qu, .inl (dA 3, 403, .inl (fun jz => zI (uf jz))))] (fun u : Nat × Int => some (.int (zI (jV kf uf tn)))) (fun u : Nat × Int => u = jG kf pf uf tn g ∧ wOk u) (fun u : Nat × Int => [(a, .inr (9, [v0, v1, v2, v3, v4, .ref (qk), .ref (qp), .ref (qu), v8, v9, .int (zI ((tk : Nat) : Int)), v11, .int (zI ((ft : Nat) : Int)), v13, .int (zI ((u.1 : Nat) : Int)), .int (zI (u.2)), v16, v17, v18, v19, v20, v21, .int (zI ((w : Nat) : Int)), .int (zI ((le : Nat) : Int)), .int (zB (ra)), .int (zB (rl)), .ref (qf), v27, v28, v29, v30, v31, v32, v33, v34, v35, v36, v37, v38, v39, v40, v41, v42, v43, v44])), (qk, .inl (dA 3, 403, .inl (fun jz => zI (kf jz)))), (qp, .inl (dA 3, 403, .inl (fun jz => zI (pf jz)))), (qu, .inl (dA 3, 403, .inl (fun jz => zI (uf jz))))]) := by
  refine zG.of (by decide +kernel) rfl ?_
  intro pp ee ss mm args below meth cd Q A C hr hlk hQ hA hin H locs hP hD hS ls hl
  have hx := C.1.1
  have hb := C.1.2.1
  have hl : lv_has ls 3 [(0, .ref (a)), (1, .int (zI ((tn : Nat) : Int)))] := hl
  have ok9 := hg
  unfold wOk at ok9
  have bk9 := bk tn
  have bu0 := bu tn
  have bu1 := bu (tn + 1)
  refine lv_aload_n hx hb dX9_jAt_0 rfl (lv_at hl 0 rfl) ?_
  refine z_get C hP 0 rfl rfl in_X9 5 (by decide) q1889 rfl dX9_jAt_1 ?_
  refine lv_iload_n hx hb dX9_jAt_4 rfl (lv_at hl 1 rfl) ?_
  refine z_iald C hP 1 rfl (tn) rfl (by omega) (by decide) dX9_jAt_5 ?_
  refine z_iconst C dX9_jAt_6 ?_
  refine z_icmp_ne (tgt := 16) C ⟨by omega, by omega⟩ ⟨by decide, by decide⟩ dX9_jAt_7 (by decide) (fun c_7 => ?_) (fun c_7 => ?_)
  · have nb9 : jNb kf tn = tn := if_neg (by omega)
    refine lv_iload_n hx hb dX9_jAt_16 rfl (lv_at hl 1 rfl) ?_
    refine lv_istore_n (lv' := [(2, .int (zI ((tn : Nat) : Int))), (0, .ref (a)), (1, .int (zI ((tn : Nat) : Int)))]) hx hb dX9_jAt_17 rfl hl (by decide) rfl (fun ls hl => ?_)
    refine lv_aload_n hx hb dX9_jAt_18 rfl (lv_at hl 1 rfl) ?_
    refine z_get C hP 0 rfl rfl in_X9 7 (by decide) q1891 rfl dX9_jAt_19 ?_
    refine lv_iload_n hx hb dX9_jAt_22 rfl (lv_at hl 0 rfl) ?_
    refine z_iald C hP 3 rfl (tn) rfl (by omega) (by decide) dX9_jAt_23 ?_
    refine z_iconst C dX9_jAt_24 ?_
    refine z_icmp_le (tgt := 34) C ⟨by omega, by omega⟩ ⟨by decide, by decide⟩ dX9_jAt_25 (by decide) (fun c_25 => ?_) (fun c_25 => ?_)
    · have e9 : jG kf pf uf tn g = g := by unfold jG; rw [nb9, if_neg (by omega)]
      have ok8 := hg
      refine lv_aload_n hx hb dX9_jAt_34 rfl (lv_at hl 1 rfl) ?_
      refine z_get C hP 0 rfl rfl in_X9 5 (by decide) q1889 rfl dX9_jAt_35 ?_
      refine lv_iload_n hx hb dX9_jAt_38 rfl (lv_at hl 2 rfl) ?_
      refine z_iald C hP 1 rfl (tn) rfl (by omega) (by decide) dX9_jAt_39 ?_
      refine z_iconst C dX9_jAt_40 ?_
      refine z_icmp_ne (tgt := 54) C ⟨by omega, by omega⟩ ⟨by decide, by decide⟩ dX9_jAt_41 (by decide) (fun c_41 => ?_) (fun c_41 => ?_)
      · refine lv_aload_n hx hb dX9_jAt_54 rfl (lv_at hl 1 rfl) ?_
        refine z_get C hP 0 rfl rfl in_X9 7 (by decide) q1891 rfl dX9_jAt_55 ?_
        refine lv_iload_n hx hb dX9_jAt_58 rfl (lv_at hl 0 rfl) ?_
        refine z_iald C hP 3 rfl (tn) rfl (by omega) (by decide) dX9_jAt_59 ?_
        exact z_iretG C hlk hr hQ (g) (by unfold jV; rw [nb9]; first | (rw [if_pos (by omega)]; done) | (rw [if_neg (by omega)]; done)) ⟨e9.symm, ok8⟩ (hP.sub [0, 1, 2, 3] rfl) (hD.sub [0, 1, 2, 3] (by decide) rfl) hS (Nat.le_of_ble_eq_true rfl) (Nat.le_of_ble_eq_true rfl) dX9_jAt_60
      · exact absurd c_41 (by omega)
    · refine lv_aload_n hx hb dX9_jAt_28 rfl (lv_at hl 1 rfl) ?_
      refine z_iconst C dX9_jAt_29 ?_
      refine lv_iload_n hx hb dX9_jAt_30 rfl (lv_at hl 0 rfl) ?_
      refine z_gV (n := 2) (As := [.int (zI 3), .int (zI ((tn : Nat) : Int))]) (rest := []) (wc := [(a, .inr (9, [v0, v1, v2, v3, v4, .ref (qk), .ref (qp), .ref (qu), v8, v9, .int (zI ((tk : Nat) : Int)), v11, .int (zI ((ft : Nat) : Int)), v13, .int (zI ((g.1 : Nat) : Int)), .int (zI (g.2)), v16, v17, v18, v19, v20, v21, .int (zI ((w : Nat) : Int)), .int (zI ((le : Nat) : Int)), .int (zB (ra)), .int (zB (rl)), .ref (qf), v27, v28, v29, v30, v31, v32, v33, v34, v35, v36, v37, v38, v39, v40, v41, v42, v43, v44])), (qp, .inl (dA 3, 403, .inl (fun jz => zI (pf jz))))]) (wr := [(qk, .inl (dA 3, 403, .inl (fun jz => zI (kf jz)))), (qu, .inl (dA 3, 403, .inl (fun jz => zI (uf jz))))]) C hP hD hS hA [0, 2] [1, 3] rfl rfl (by decide) (by decide) (by decide) (k_X9_wrong l D dA (a) (v0) (v1) (v2) (v3) (v4) (v8) (v9) (v11) (v13) (v16) (v17) (v18) (v19) (v20) (v21) (v27) (v28) (v29) (v30) (v31) (v32) (v33) (v34) (v35) (v36) (v37) (v38) (v39) (v40) (v41) (v42) (v43) (v44) (qk) (qp) (qu) (qf) (ft) (w) (le) (tk) (ra) (rl) (pf) (g) (3) (tn) (by first | with_reducible assumption | omega | with_reducible rfl) hg (by first | with_reducible assumption | omega | with_reducible rfl) (by first | with_reducible assumption | omega | with_reducible rfl) (by first | with_reducible assumption | omega | with_reducible rfl)) (lw_V q2093 q2095 qs76 q124 q2096) (by decide +kernel) rfl ⟨Nat.le_of_ble_eq_true rfl, Nat.le_of_ble_eq_true rfl⟩ hl.1 0 rfl rfl rfl (Nat.le_of_ble_eq_true rfl) dX9_jAt_31 (by decide) (by decide) (fun u_31 H locs hp_31 hP hD hS _ => ?_)
      obtain ⟨g1_1, rfl⟩ : ∃ z, z = u_31 := ⟨_, rfl⟩
      have hP := hP.sub (ws' := [(a, .inr (9, [v0, v1, v2, v3, v4, .ref (qk), .ref (qp), .ref (qu), v8, v9, .int (zI ((tk : Nat) : Int)), v11, .int (zI ((ft : Nat) : Int)), v13, .int (zI ((g1_1.1 : Nat) : Int)), .int (zI (g1_1.2)), v16, v17, v18, v19, v20, v21, .int (zI ((w : Nat) : Int)), .int (zI ((le : Nat) : Int)), .int (zB (ra)), .int (zB (rl)), .ref (qf), v27, v28, v29, v30, v31, v32, v33, v34, v35, v36, v37, v38, v39, v40, v41, v42, v43, v44])), (qk, .inl (dA 3, 403, .inl (fun jz => zI (kf jz)))), (qp, .inl (dA 3, 403, .inl (fun jz => zI (pf jz)))), (qu, .inl (dA 3, 403, .inl (fun jz => zI (uf jz))))]) [2, 0, 3, 1] rfl
      have hD := hD.sub (ws' := [(a, .inr (9, [v0, v1, v2, v3, v4, .ref (qk), .ref (qp), .ref (qu), v8, v9, .int (zI ((tk : Nat) : Int)), v11, .int (zI ((ft : Nat) : Int)), v13, .int (zI ((g1_1.1 : Nat) : Int)), .int (zI (g1_1.2)), v16, v17, v18, v19, v20, v21, .int (zI ((w : Nat) : Int)), .int (zI ((le : Nat) : Int)), .int (zB (ra)), .int (zB (rl)), .ref (qf), v27, v28, v29, v30, v31, v32, v33, v34, v35, v36, v37, v38, v39, v40, v41, v42, v43, v44])), (qk, .inl (dA 3, 403, .inl (fun jz => zI (kf jz)))), (qp, .inl (dA 3, 403, .inl (fun jz => zI (pf jz)))), (qu, .inl (dA 3, 403, .inl (fun jz => zI (uf jz))))]) [2, 0, 3, 1] (by decide) rfl
      have hp_31 : g1_1 = wG pf 3 tn g ∧ wOk g1_1 := hp_31
      refine W.widen (k := 0) (n := 0) (Nat.le_of_ble_eq_true rfl) (Nat.le_of_ble_eq_true rfl) ?_
      have e9 : jG kf pf uf tn g = g1_1 := by unfold jG; rw [nb9, if_pos (by omega)]; exact hp_31.1.symm
      have ok8 := hp_31.2
      refine lv_aload_n hx hb dX9_jAt_34 rfl (lv_at hl 1 rfl) ?_
      refine z_get C hP 0 rfl rfl in_X9 5 (by decide) q1889 rfl dX9_jAt_35 ?_
      refine lv_iload_n hx hb dX9_jAt_38 rfl (lv_at hl 2 rfl) ?_
      refine z_iald C hP 1 rfl (tn) rfl (by omega) (by decide) dX9_jAt_39 ?_
      refine z_iconst C dX9_jAt_40 ?_
      refine z_icmp_ne (tgt := 54) C ⟨by omega, by omega⟩ ⟨by decide, by decide⟩ dX9_jAt_41 (by decide) (fun c_41 => ?_) (fun c_41 => ?_)
      · refine lv_aload_n hx hb dX9_jAt_54 rfl (lv_at hl 1 rfl) ?_
        refine z_get C hP 0 rfl rfl in_X9 7 (by decide) q1891 rfl dX9_jAt_55 ?_
        refine lv_iload_n hx hb dX9_jAt_58 rfl (lv_at hl 0 rfl) ?_
        refine z_iald C hP 3 rfl (tn) rfl (by omega) (by decide) dX9_jAt_59 ?_
        exact z_iretG C hlk hr hQ (g1_1) (by unfold jV; rw [nb9]; first | (rw [if_pos (by omega)]; done) | (rw [if_neg (by omega)]; done)) ⟨e9.symm, ok8⟩ (hP.sub [0, 1, 2, 3] rfl) (hD.sub [0, 1, 2, 3] (by decide) rfl) hS (Nat.le_of_ble_eq_true rfl) (Nat.le_of_ble_eq_true rfl) dX9_jAt_60
      · exact absurd c_41 (by omega)
  · have nb9 : jNb kf tn = tn + 1 := if_pos (by omega)
    refine lv_iload_n hx hb dX9_jAt_10 rfl (lv_at hl 1 rfl) ?_
    refine z_iconst C dX9_jAt_11 ?_
    refine z_iaddN C (tn) (1) rfl rfl dX9_jAt_12 ?_
    refine lv_goto (tgt := 17) hx hb dX9_jAt_13 (by decide) ?_
    refine lv_istore_n (lv' := [(2, .int (zI (((tn + 1) : Nat) : Int))), (0, .ref (a)), (1, .int (zI ((tn : Nat) : Int)))]) hx hb dX9_jAt_17 rfl hl (by decide) rfl (fun ls hl => ?_)
    refine lv_aload_n hx hb dX9_jAt_18 rfl (lv_at hl 1 rfl) ?_
    refine z_get C hP 0 rfl rfl in_X9 7 (by decide) q1891 rfl dX9_jAt_19 ?_
    refine lv_iload_n hx hb dX9_jAt_22 rfl (lv_at hl 0 rfl) ?_
    refine z_iald C hP 3 rfl ((tn + 1)) rfl (by omega) (by decide) dX9_jAt_23 ?_
    refine z_iconst C dX9_jAt_24 ?_
    refine z_icmp_le (tgt := 34) C ⟨by omega, by omega⟩ ⟨by decide, by decide⟩ dX9_jAt_25 (by decide) (fun c_25 => ?_) (fun c_25 => ?_)
    · have e9 : jG kf pf uf tn g = g := by unfold jG; rw [nb9, if_neg (by omega)]
      have ok8 := hg
      refine lv_aload_n hx hb dX9_jAt_34 rfl (lv_at hl 1 rfl) ?_
      refine z_get C hP 0 rfl rfl in_X9 5 (by decide) q1889 rfl dX9_jAt_35 ?_
      refine lv_iload_n hx hb dX9_jAt_38 rfl (lv_at hl 2 rfl) ?_
      refine z_iald C hP 1 rfl (tn) rfl (by omega) (by decide) dX9_jAt_39 ?_
      refine z_iconst C dX9_jAt_40 ?_
      refine z_icmp_ne (tgt := 54) C ⟨by omega, by omega⟩ ⟨by decide, by decide⟩ dX9_jAt_41 (by decide) (fun c_41 => ?_) (fun c_41 => ?_)
      · exact absurd c_41 (by omega)
      · refine lv_aload_n hx hb dX9_jAt_44 rfl (lv_at hl 1 rfl) ?_
        refine z_get C hP 0 rfl rfl in_X9 7 (by decide) q1891 rfl dX9_jAt_45 ?_
        refine lv_iload_n hx hb dX9_jAt_48 rfl (lv_at hl 0 rfl) ?_
        refine z_iald C hP 3 rfl ((tn + 1)) rfl (by omega) (by decide) dX9_jAt_49 ?_
        refine z_ineg C dX9_jAt_50 ?_
        refine lv_goto (tgt := 60) hx hb dX9_jAt_51 (by decide) ?_
        exact z_iretG C hlk hr hQ (g) (by unfold jV; rw [nb9]; first | (rw [if_pos (by omega)]; done) | (rw [if_neg (by omega)]; done)) ⟨e9.symm, ok8⟩ (hP.sub [0, 1, 2, 3] rfl) (hD.sub [0, 1, 2, 3] (by decide) rfl) hS (Nat.le_of_ble_eq_true rfl) (Nat.le_of_ble_eq_true rfl) dX9_jAt_60
    · refine lv_aload_n hx hb dX9_jAt_28 rfl (lv_at hl 1 rfl) ?_
      refine z_iconst C dX9_jAt_29 ?_
      refine lv_iload_n hx hb dX9_jAt_30 rfl (lv_at hl 0 rfl) ?_
      refine z_gV (n := 2) (As := [.int (zI 3), .int (zI (((tn + 1) : Nat) : Int))]) (rest := []) (wc := [(a, .inr (9, [v0, v1, v2, v3, v4, .ref (qk), .ref (qp), .ref (qu), v8, v9, .int (zI ((tk : Nat) : Int)), v11, .int (zI ((ft : Nat) : Int)), v13, .int (zI ((g.1 : Nat) : Int)), .int (zI (g.2)), v16, v17, v18, v19, v20, v21, .int (zI ((w : Nat) : Int)), .int (zI ((le : Nat) : Int)), .int (zB (ra)), .int (zB (rl)), .ref (qf), v27, v28, v29, v30, v31, v32, v33, v34, v35, v36, v37, v38, v39, v40, v41, v42, v43, v44])), (qp, .inl (dA 3, 403, .inl (fun jz => zI (pf jz))))]) (wr := [(qk, .inl (dA 3, 403, .inl (fun jz => zI (kf jz)))), (qu, .inl (dA 3, 403, .inl (fun jz => zI (uf jz))))]) C hP hD hS hA [0, 2] [1, 3] rfl rfl (by decide) (by decide) (by decide) (k_X9_wrong l D dA (a) (v0) (v1) (v2) (v3) (v4) (v8) (v9) (v11) (v13) (v16) (v17) (v18) (v19) (v20) (v21) (v27) (v28) (v29) (v30) (v31) (v32) (v33) (v34) (v35) (v36) (v37) (v38) (v39) (v40) (v41) (v42) (v43) (v44) (qk) (qp) (qu) (qf) (ft) (w) (le) (tk) (ra) (rl) (pf) (g) (3) ((tn + 1)) (by first | with_reducible assumption | omega | with_reducible rfl) hg (by first | with_reducible assumption | omega | with_reducible rfl) (by first | with_reducible assumption | omega | with_reducible rfl) (by first | with_reducible assumption | omega | with_reducible rfl)) (lw_V q2093 q2095 qs76 q124 q2096) (by decide +kernel) rfl ⟨Nat.le_of_ble_eq_true rfl, Nat.le_of_ble_eq_true rfl⟩ hl.1 0 rfl rfl rfl (Nat.le_of_ble_eq_true rfl) dX9_jAt_31 (by decide) (by decide) (fun u_31 H locs hp_31 hP hD hS _ => ?_)
      obtain ⟨g1_2, rfl⟩ : ∃ z, z = u_31 := ⟨_, rfl⟩
      have hP := hP.sub (ws' := [(a, .inr (9, [v0, v1, v2, v3, v4, .ref (qk), .ref (qp), .ref (qu), v8, v9, .int (zI ((tk : Nat) : Int)), v11, .int (zI ((ft : Nat) : Int)), v13, .int (zI ((g1_2.1 : Nat) : Int)), .int (zI (g1_2.2)), v16, v17, v18, v19, v20, v21, .int (zI ((w : Nat) : Int)), .int (zI ((le : Nat) : Int)), .int (zB (ra)), .int (zB (rl)), .ref (qf), v27, v28, v29, v30, v31, v32, v33, v34, v35, v36, v37, v38, v39, v40, v41, v42, v43, v44])), (qk, .inl (dA 3, 403, .inl (fun jz => zI (kf jz)))), (qp, .inl (dA 3, 403, .inl (fun jz => zI (pf jz)))), (qu, .inl (dA 3, 403, .inl (fun jz => zI (uf jz))))]) [2, 0, 3, 1] rfl
      have hD := hD.sub (ws' := [(a, .inr (9, [v0, v1, v2, v3, v4, .ref (qk), .ref (qp), .ref (qu), v8, v9, .int (zI ((tk : Nat) : Int)), v11, .int (zI ((ft : Nat) : Int)), v13, .int (zI ((g1_2.1 : Nat) : Int)), .int (zI (g1_2.2)), v16, v17, v18, v19, v20, v21, .int (zI ((w : Nat) : Int)), .int (zI ((le : Nat) : Int)), .int (zB (ra)), .int (zB (rl)), .ref (qf), v27, v28, v29, v30, v31, v32, v33, v34, v35, v36, v37, v38, v39, v40, v41, v42, v43, v44])), (qk, .inl (dA 3, 403, .inl (fun jz => zI (kf jz)))), (qp, .inl (dA 3, 403, .inl (fun jz => zI (pf jz)))), (qu, .inl (dA 3, 403, .inl (fun jz => zI (uf jz))))]) [2, 0, 3, 1] (by decide) rfl
      have hp_31 : g1_2 = wG pf 3 ((tn + 1)) g ∧ wOk g1_2 := hp_31
      refine W.widen (k := 0) (n := 0) (Nat.le_of_ble_eq_true rfl) (Nat.le_of_ble_eq_true rfl) ?_
      have e9 : jG kf pf uf tn g = g1_2 := by unfold jG; rw [nb9, if_pos (by omega)]; exact hp_31.1.symm
      have ok8 := hp_31.2
      refine lv_aload_n hx hb dX9_jAt_34 rfl (lv_at hl 1 rfl) ?_
      refine z_get C hP 0 rfl rfl in_X9 5 (by decide) q1889 rfl dX9_jAt_35 ?_
      refine lv_iload_n hx hb dX9_jAt_38 rfl (lv_at hl 2 rfl) ?_
      refine z_iald C hP 1 rfl (tn) rfl (by omega) (by decide) dX9_jAt_39 ?_
      refine z_iconst C dX9_jAt_40 ?_
      refine z_icmp_ne (tgt := 54) C ⟨by omega, by omega⟩ ⟨by decide, by decide⟩ dX9_jAt_41 (by decide) (fun c_41 => ?_) (fun c_41 => ?_)
      · exact absurd c_41 (by omega)
      · refine lv_aload_n hx hb dX9_jAt_44 rfl (lv_at hl 1 rfl) ?_
        refine z_get C hP 0 rfl rfl in_X9 7 (by decide) q1891 rfl dX9_jAt_45 ?_
        refine lv_iload_n hx hb dX9_jAt_48 rfl (lv_at hl 0 rfl) ?_
        refine z_iald C hP 3 rfl ((tn + 1)) rfl (by omega) (by decide) dX9_jAt_49 ?_
        refine z_ineg C dX9_jAt_50 ?_
        refine lv_goto (tgt := 60) hx hb dX9_jAt_51 (by decide) ?_
        exact z_iretG C hlk hr hQ (g1_2) (by unfold jV; rw [nb9]; first | (rw [if_pos (by omega)]; done) | (rw [if_neg (by omega)]; done)) ⟨e9.symm, ok8⟩ (hP.sub [0, 1, 2, 3] rfl) (hD.sub [0, 1, 2, 3] (by decide) rfl) hS (Nat.le_of_ble_eq_true rfl) (Nat.le_of_ble_eq_true rfl) dX9_jAt_60
set_option maxHeartbeats 600000 in
set_option maxRecDepth 100000 in
theorem k_X9_meansAll (l : Launch) (D : va_G) (dA : Nat → ClassId) (a : Nat) (v0 v1 v2 v3 v4 v8 v9 v11 v13 v16 v17 v18 v19 v20 v21 v27 v28 v29 v30 v31 v32 v33 v34 v35 v36 v37 v38 v39 v40 v41 v42 v43 v44 : Value) (qk qp qu qf ft w le tk : Nat) (ra rl : Bool) (kf pf uf fr : Nat → Int) (g : Nat × Int) (k : Nat) (hft : ft = 0) (hg : wOk g) (bk : ∀ j, 0 ≤ kf j ∧ kf j ≤ 30) (bp : ∀ j, 0 ≤ pf j ∧ pf j ≤ 2000) (bu : ∀ j, 0 ≤ uf j ∧ uf j ≤ 9999) (hk : k < 401) : zG (S := (Nat × Int) × (Nat → Int)) l yX9_meansAll cX9_meansAll 5 (none) (zRmW 2 45 0 0) D dA [.ref (a), .int (zI ((k : Nat) : Int))] [(a, .inr (9, [v0, v1, v2, v3, v4, .ref (qk), .ref (qp), .ref (qu), v8, v9, .int (zI ((tk : Nat) : Int)), v11, .int (zI ((ft : Nat) : Int)), v13, .int (zI ((g.1 : Nat) : Int)), .int (zI (g.2)), v16, v17, v18, v19, v20, v21, .int (zI ((w : Nat) : Int)), .int (zI ((le : Nat) : Int)), .int (zB (ra)), .int (zB (rl)), .ref (qf), v27, v28, v29, v30, v31, v32, v33, v34, v35, v36, v37, v38, v39, v40, v41, v42, v43, v44])), (qk, .inl (dA 3, 403, .inl (fun jz => zI (kf jz)))), (qp, .inl (dA 3, 403, .inl (fun jz => zI (pf jz)))), (qu, .inl (dA 3, 403, .inl (fun jz => zI (uf jz)))), (qf, .inl (dA 3, 66, .inl (fun jz => zI (fr jz))))] (fun u : (Nat × Int) × (Nat → Int) => none) (fun u : (Nat × Int) × (Nat → Int) => (u.1 = aG kf pf uf k g ∧ wOk u.1) ∧ u.2 = aF kf uf k fr) (fun u : (Nat × Int) × (Nat → Int) => [(a, .inr (9, [v0, v1, v2, v3, v4, .ref (qk), .ref (qp), .ref (qu), v8, v9, .int (zI ((tk : Nat) : Int)), v11, .int (zI ((ft : Nat) : Int)), v13, .int (zI ((u.1.1 : Nat) : Int)), .int (zI (u.1.2)), v16, v17, v18, v19, v20, v21, .int (zI ((w : Nat) : Int)), .int (zI ((le : Nat) : Int)), .int (zB (ra)), .int (zB (rl)), .ref (qf), v27, v28, v29, v30, v31, v32, v33, v34, v35, v36, v37, v38, v39, v40, v41, v42, v43, v44])), (qk, .inl (dA 3, 403, .inl (fun jz => zI (kf jz)))), (qp, .inl (dA 3, 403, .inl (fun jz => zI (pf jz)))), (qu, .inl (dA 3, 403, .inl (fun jz => zI (uf jz)))), (qf, .inl (dA 3, 66, .inl (fun jz => zI (u.2 jz))))]) := by
  refine zG.of (by decide +kernel) rfl ?_
  intro pp ee ss mm args below meth cd Q A C hr hlk hQ hA hin H locs hP hD hS ls hl
  have hx := C.1.1
  have hb := C.1.2.1
  have hl : lv_has ls 5 [(0, .ref (a)), (1, .int (zI ((k : Nat) : Int)))] := hl
  have ok9 := hg
  unfold wOk at ok9
  have bk9 := bk k
  have bu1 := bu (k + 1)
  refine lv_aload_n hx hb dX9_meansAll_0 rfl (lv_at hl 0 rfl) ?_
  refine z_get C hP 0 rfl rfl in_X9 5 (by decide) q1889 rfl dX9_meansAll_1 ?_
  refine lv_iload_n hx hb dX9_meansAll_4 rfl (lv_at hl 1 rfl) ?_
  refine z_iald C hP 1 rfl (k) rfl (by omega) (by decide) dX9_meansAll_5 ?_
  refine z_bipush C dX9_meansAll_6 rfl ?_
  refine z_icmp_ne (tgt := 26) C ⟨by omega, by omega⟩ ⟨by decide, by decide⟩ dX9_meansAll_8 (by decide) (fun c_8 => ?_) (fun c_8 => ?_)
  · refine lv_aload_n hx hb dX9_meansAll_26 rfl (lv_at hl 0 rfl) ?_
    refine z_get C hP 0 rfl rfl in_X9 5 (by decide) q1889 rfl dX9_meansAll_27 ?_
    refine lv_iload_n hx hb dX9_meansAll_30 rfl (lv_at hl 1 rfl) ?_
    refine z_iald C hP 1 rfl (k) rfl (by omega) (by decide) dX9_meansAll_31 ?_
    refine z_bipush C dX9_meansAll_32 rfl ?_
    refine z_icmp_eq (tgt := 60) C ⟨by omega, by omega⟩ ⟨by decide, by decide⟩ dX9_meansAll_34 (by decide) (fun c_34 => ?_) (fun c_34 => ?_)
    · have J93 : ∀ (d : Nat), (d = aD (kf k)) → (d ≤ 32) → ∀ (H : Heap) (locs : List Loc), va_P D vwCl [(a, .inr (9, [v0, v1, v2, v3, v4, .ref (qk), .ref (qp), .ref (qu), v8, v9, .int (zI ((tk : Nat) : Int)), v11, .int (zI ((ft : Nat) : Int)), v13, .int (zI ((g.1 : Nat) : Int)), .int (zI (g.2)), v16, v17, v18, v19, v20, v21, .int (zI ((w : Nat) : Int)), .int (zI ((le : Nat) : Int)), .int (zB (ra)), .int (zB (rl)), .ref (qf), v27, v28, v29, v30, v31, v32, v33, v34, v35, v36, v37, v38, v39, v40, v41, v42, v43, v44])), (qk, .inl (dA 3, 403, .inl (fun jz => zI (kf jz)))), (qp, .inl (dA 3, 403, .inl (fun jz => zI (pf jz)))), (qu, .inl (dA 3, 403, .inl (fun jz => zI (uf jz)))), (qf, .inl (dA 3, 66, .inl (fun jz => zI (fr jz))))] H → va_D A [(a, .inr (9, [v0, v1, v2, v3, v4, .ref (qk), .ref (qp), .ref (qu), v8, v9, .int (zI ((tk : Nat) : Int)), v11, .int (zI ((ft : Nat) : Int)), v13, .int (zI ((g.1 : Nat) : Int)), .int (zI (g.2)), v16, v17, v18, v19, v20, v21, .int (zI ((w : Nat) : Int)), .int (zI ((le : Nat) : Int)), .int (zB (ra)), .int (zB (rl)), .ref (qf), v27, v28, v29, v30, v31, v32, v33, v34, v35, v36, v37, v38, v39, v40, v41, v42, v43, v44])), (qk, .inl (dA 3, 403, .inl (fun jz => zI (kf jz)))), (qp, .inl (dA 3, 403, .inl (fun jz => zI (pf jz)))), (qu, .inl (dA 3, 403, .inl (fun jz => zI (uf jz)))), (qf, .inl (dA 3, 66, .inl (fun jz => zI (fr jz))))] → va_S A ss.heap H locs → ∀ ls : Array Slot, lv_has ls 5 [(0, .ref (a)), (1, .int (zI ((k : Nat) : Int)))] → W pp l ee (zRmW 2 45 0 0) ss mm args below meth cd H locs 0 0 Q (F0 mm 93 ls [.int (zI ((d : Nat) : Int))]) := by
        intro d ad9 d9 H locs hP hD hS ls hl
        have ak9 : aK (kf k) = true := decide_eq_true (by omega)
        refine lv_istore_n (lv' := [(2, .int (zI ((d : Nat) : Int))), (0, .ref (a)), (1, .int (zI ((k : Nat) : Int)))]) hx hb dX9_meansAll_93 rfl hl (by decide) rfl (fun ls hl => ?_)
        refine lv_aload_n hx hb dX9_meansAll_94 rfl (lv_at hl 1 rfl) ?_
        refine lv_iload_n hx hb dX9_meansAll_95 rfl (lv_at hl 2 rfl) ?_
        refine z_iconst C dX9_meansAll_96 ?_
        refine z_iaddN C (k) (1) rfl rfl dX9_meansAll_97 ?_
        refine z_gV (n := 1) (As := [.int (zI (((k + 1) : Nat) : Int))]) (rest := []) (wc := [(a, .inr (9, [v0, v1, v2, v3, v4, .ref (qk), .ref (qp), .ref (qu), v8, v9, .int (zI ((tk : Nat) : Int)), v11, .int (zI ((ft : Nat) : Int)), v13, .int (zI ((g.1 : Nat) : Int)), .int (zI (g.2)), v16, v17, v18, v19, v20, v21, .int (zI ((w : Nat) : Int)), .int (zI ((le : Nat) : Int)), .int (zB (ra)), .int (zB (rl)), .ref (qf), v27, v28, v29, v30, v31, v32, v33, v34, v35, v36, v37, v38, v39, v40, v41, v42, v43, v44])), (qk, .inl (dA 3, 403, .inl (fun jz => zI (kf jz)))), (qp, .inl (dA 3, 403, .inl (fun jz => zI (pf jz)))), (qu, .inl (dA 3, 403, .inl (fun jz => zI (uf jz))))]) (wr := [(qf, .inl (dA 3, 66, .inl (fun jz => zI (fr jz))))]) C hP hD hS hA [0, 1, 2, 3] [4] rfl rfl (by decide) (by decide) (by decide) (k_X9_jAt l D dA (a) (v0) (v1) (v2) (v3) (v4) (v8) (v9) (v11) (v13) (v16) (v17) (v18) (v19) (v20) (v21) (v27) (v28) (v29) (v30) (v31) (v32) (v33) (v34) (v35) (v36) (v37) (v38) (v39) (v40) (v41) (v42) (v43) (v44) (qk) (qp) (qu) (qf) (ft) (w) (le) (tk) (ra) (rl) (kf) (pf) (uf) (g) ((k + 1)) (by first | with_reducible assumption | omega | with_reducible rfl) (by first | with_reducible assumption | omega | with_reducible rfl) (by first | with_reducible assumption | omega | with_reducible rfl) (by first | with_reducible assumption | omega | with_reducible rfl) (by first | with_reducible assumption | omega | with_reducible rfl) (by first | with_reducible assumption | omega | with_reducible rfl)) (lw_V q2101 q2103 qs78 q124 q2104) (by decide +kernel) rfl ⟨Nat.le_of_ble_eq_true rfl, Nat.le_of_ble_eq_true rfl⟩ hl.1 0 rfl rfl rfl (Nat.le_of_ble_eq_true rfl) dX9_meansAll_98 (by decide) (by decide) (fun u_98 H locs hp_98 hP hD hS _ => ?_)
        obtain ⟨g1_1, rfl⟩ : ∃ z, z = u_98 := ⟨_, rfl⟩
        have hP := hP.sub (ws' := [(a, .inr (9, [v0, v1, v2, v3, v4, .ref (qk), .ref (qp), .ref (qu), v8, v9, .int (zI ((tk : Nat) : Int)), v11, .int (zI ((ft : Nat) : Int)), v13, .int (zI ((g1_1.1 : Nat) : Int)), .int (zI (g1_1.2)), v16, v17, v18, v19, v20, v21, .int (zI ((w : Nat) : Int)), .int (zI ((le : Nat) : Int)), .int (zB (ra)), .int (zB (rl)), .ref (qf), v27, v28, v29, v30, v31, v32, v33, v34, v35, v36, v37, v38, v39, v40, v41, v42, v43, v44])), (qk, .inl (dA 3, 403, .inl (fun jz => zI (kf jz)))), (qp, .inl (dA 3, 403, .inl (fun jz => zI (pf jz)))), (qu, .inl (dA 3, 403, .inl (fun jz => zI (uf jz)))), (qf, .inl (dA 3, 66, .inl (fun jz => zI (fr jz))))]) [1, 2, 3, 4, 0] rfl
        have hD := hD.sub (ws' := [(a, .inr (9, [v0, v1, v2, v3, v4, .ref (qk), .ref (qp), .ref (qu), v8, v9, .int (zI ((tk : Nat) : Int)), v11, .int (zI ((ft : Nat) : Int)), v13, .int (zI ((g1_1.1 : Nat) : Int)), .int (zI (g1_1.2)), v16, v17, v18, v19, v20, v21, .int (zI ((w : Nat) : Int)), .int (zI ((le : Nat) : Int)), .int (zB (ra)), .int (zB (rl)), .ref (qf), v27, v28, v29, v30, v31, v32, v33, v34, v35, v36, v37, v38, v39, v40, v41, v42, v43, v44])), (qk, .inl (dA 3, 403, .inl (fun jz => zI (kf jz)))), (qp, .inl (dA 3, 403, .inl (fun jz => zI (pf jz)))), (qu, .inl (dA 3, 403, .inl (fun jz => zI (uf jz)))), (qf, .inl (dA 3, 66, .inl (fun jz => zI (fr jz))))]) [1, 2, 3, 4, 0] (by decide) rfl
        have hp_98 : g1_1 = jG kf pf uf ((k + 1)) g ∧ wOk g1_1 := hp_98
        refine W.widen (k := 0) (n := 0) (Nat.le_of_ble_eq_true rfl) (Nat.le_of_ble_eq_true rfl) ?_
        refine z_nm (fun jv_2 e_jv_2 => ?_)
        have jb9 := jV_b (kf := kf) bu (k + 1)
        have e9 : aG kf pf uf k g = g1_1 := by unfold aG; rw [if_pos ak9]; exact hp_98.1.symm
        have ok8 := hp_98.2
        refine lv_istore_n (lv' := [(3, .int (zI (jv_2))), (2, .int (zI ((d : Nat) : Int))), (0, .ref (a)), (1, .int (zI ((k : Nat) : Int)))]) hx hb dX9_meansAll_101 rfl hl (by decide) rfl (fun ls hl => ?_)
        refine z_iconst C dX9_meansAll_102 ?_
        refine lv_istore (lv' := [(4, .int (zI 0)), (3, .int (zI (jv_2))), (2, .int (zI ((d : Nat) : Int))), (0, .ref (a)), (1, .int (zI ((k : Nat) : Int)))]) hx hb dX9_meansAll_103 hl (by decide) rfl (fun ls hl => ?_)
        have L105 : ∀ (N : Nat) (si : Nat), (si ≤ 16) → (16 - si) < N → ∀ (H : Heap) (locs : List Loc), va_P D vwCl [(a, .inr (9, [v0, v1, v2, v3, v4, .ref (qk), .ref (qp), .ref (qu), v8, v9, .int (zI ((tk : Nat) : Int)), v11, .int (zI ((ft : Nat) : Int)), v13, .int (zI ((g1_1.1 : Nat) : Int)), .int (zI (g1_1.2)), v16, v17, v18, v19, v20, v21, .int (zI ((w : Nat) : Int)), .int (zI ((le : Nat) : Int)), .int (zB (ra)), .int (zB (rl)), .ref (qf), v27, v28, v29, v30, v31, v32, v33, v34, v35, v36, v37, v38, v39, v40, v41, v42, v43, v44])), (qk, .inl (dA 3, 403, .inl (fun jz => zI (kf jz)))), (qp, .inl (dA 3, 403, .inl (fun jz => zI (pf jz)))), (qu, .inl (dA 3, 403, .inl (fun jz => zI (uf jz)))), (qf, .inl (dA 3, 66, .inl (fun jz => zI ((flN fr d jv_2 si) jz))))] H → va_D A [(a, .inr (9, [v0, v1, v2, v3, v4, .ref (qk), .ref (qp), .ref (qu), v8, v9, .int (zI ((tk : Nat) : Int)), v11, .int (zI ((ft : Nat) : Int)), v13, .int (zI ((g1_1.1 : Nat) : Int)), .int (zI (g1_1.2)), v16, v17, v18, v19, v20, v21, .int (zI ((w : Nat) : Int)), .int (zI ((le : Nat) : Int)), .int (zB (ra)), .int (zB (rl)), .ref (qf), v27, v28, v29, v30, v31, v32, v33, v34, v35, v36, v37, v38, v39, v40, v41, v42, v43, v44])), (qk, .inl (dA 3, 403, .inl (fun jz => zI (kf jz)))), (qp, .inl (dA 3, 403, .inl (fun jz => zI (pf jz)))), (qu, .inl (dA 3, 403, .inl (fun jz => zI (uf jz)))), (qf, .inl (dA 3, 66, .inl (fun jz => zI ((flN fr d jv_2 si) jz))))] → va_S A ss.heap H locs → ∀ ls : Array Slot, lv_has ls 5 [(0, .ref (a)), (1, .int (zI ((k : Nat) : Int))), (2, .int (zI ((d : Nat) : Int))), (3, .int (zI (jv_2))), (4, .int (zI ((si : Nat) : Int)))] → W pp l ee (zRmW 2 45 0 0) ss mm args below meth cd H locs 0 0 Q (F0 mm 105 ls []) := by
          intro N
          induction N with
          | zero => intro si _ hm; exact absurd hm (Nat.not_lt_zero _)
          | succ N ih105 =>
            intro si hsi hmz105 H locs hP hD hS ls hl
            refine lv_iload hx hb dX9_meansAll_105 (lv_at hl 4 rfl) ?_
            refine z_bipush C dX9_meansAll_107 rfl ?_
            refine z_icmp_ge (tgt := 128) C ⟨by omega, by omega⟩ ⟨by decide, by decide⟩ dX9_meansAll_109 (by decide) (fun c_109 => ?_) (fun c_109 => ?_)
            · have e7 : aF kf uf k fr = (flN fr d jv_2 si) := by unfold aF; rw [if_neg (by have := of_decide_eq_true ak9; omega), if_pos ak9, ← ad9, show si = 16 by omega, e_jv_2]
              exact z_vretG C hlk hr hQ ⟨g1_1, (flN fr d jv_2 si)⟩ rfl ⟨⟨e9.symm, ok8⟩, e7.symm⟩ (hP.sub [0, 1, 2, 3, 4] rfl) (hD.sub [0, 1, 2, 3, 4] (by decide) rfl) hS (Nat.le_of_ble_eq_true rfl) (Nat.le_of_ble_eq_true rfl) dX9_meansAll_128
            · refine lv_aload_n hx hb dX9_meansAll_112 rfl (lv_at hl 0 rfl) ?_
              refine z_get C hP 0 rfl rfl in_X9 26 (by decide) q1910 rfl dX9_meansAll_113 ?_
              refine lv_iload_n hx hb dX9_meansAll_116 rfl (lv_at hl 2 rfl) ?_
              refine lv_iload hx hb dX9_meansAll_117 (lv_at hl 4 rfl) ?_
              refine z_iaddN C (d) (si) rfl rfl dX9_meansAll_119 ?_
              refine lv_iload_n hx hb dX9_meansAll_120 rfl (lv_at hl 3 rfl) ?_
              refine z_iast C hP hD hS 4 rfl ((d + si)) rfl (by omega) (by decide) (v := (jv_2)) (ws' := [(a, .inr (9, [v0, v1, v2, v3, v4, .ref (qk), .ref (qp), .ref (qu), v8, v9, .int (zI ((tk : Nat) : Int)), v11, .int (zI ((ft : Nat) : Int)), v13, .int (zI ((g1_1.1 : Nat) : Int)), .int (zI (g1_1.2)), v16, v17, v18, v19, v20, v21, .int (zI ((w : Nat) : Int)), .int (zI ((le : Nat) : Int)), .int (zB (ra)), .int (zB (rl)), .ref (qf), v27, v28, v29, v30, v31, v32, v33, v34, v35, v36, v37, v38, v39, v40, v41, v42, v43, v44])), (qk, .inl (dA 3, 403, .inl (fun jz => zI (kf jz)))), (qp, .inl (dA 3, 403, .inl (fun jz => zI (pf jz)))), (qu, .inl (dA 3, 403, .inl (fun jz => zI (uf jz)))), (qf, .inl (dA 3, 66, .inl (fun jz => zI ((va_up (flN fr d jv_2 si) (d + si) (jv_2)) jz))))]) rfl dX9_meansAll_121 (fun H locs hP hD hS => ?_)
              refine lv_iinc (v := zI ((si + 1 : Nat) : Int)) (lv' := [(4, .int (zI ((si + 1 : Nat) : Int))), (0, .ref (a)), (1, .int (zI ((k : Nat) : Int))), (2, .int (zI ((d : Nat) : Int))), (3, .int (zI (jv_2)))]) hx hb dX9_meansAll_122 hl (k := 4) rfl (zI_inc (by omega)) (by decide) rfl (fun ls hl => ?_)
              refine lv_goto (tgt := 105) hx hb dX9_meansAll_125 (by decide) ?_
              exact ih105 (si + 1) (by first | with_reducible assumption | omega | with_reducible rfl) (by omega) H locs hP hD hS ls (lv_sub hl [1, 2, 3, 4, 0] rfl)
        exact L105 ((16 - 0) + 1) (0) (by first | with_reducible assumption | omega | with_reducible rfl) (by omega) H locs hP hD hS ls (lv_sub hl [3, 4, 2, 1, 0] rfl)
      refine lv_aload_n hx hb dX9_meansAll_60 rfl (lv_at hl 0 rfl) ?_
      refine z_get C hP 0 rfl rfl in_X9 5 (by decide) q1889 rfl dX9_meansAll_61 ?_
      refine lv_iload_n hx hb dX9_meansAll_64 rfl (lv_at hl 1 rfl) ?_
      refine z_iald C hP 1 rfl (k) rfl (by omega) (by decide) dX9_meansAll_65 ?_
      refine z_bipush C dX9_meansAll_66 rfl ?_
      refine z_icmp_ne (tgt := 75) C ⟨by omega, by omega⟩ ⟨by decide, by decide⟩ dX9_meansAll_68 (by decide) (fun c_68 => ?_) (fun c_68 => ?_)
      · refine lv_aload_n hx hb dX9_meansAll_75 rfl (lv_at hl 0 rfl) ?_
        refine z_get C hP 0 rfl rfl in_X9 5 (by decide) q1889 rfl dX9_meansAll_76 ?_
        refine lv_iload_n hx hb dX9_meansAll_79 rfl (lv_at hl 1 rfl) ?_
        refine z_iald C hP 1 rfl (k) rfl (by omega) (by decide) dX9_meansAll_80 ?_
        refine z_bipush C dX9_meansAll_81 rfl ?_
        refine z_icmp_ne (tgt := 91) C ⟨by omega, by omega⟩ ⟨by decide, by decide⟩ dX9_meansAll_83 (by decide) (fun c_83 => ?_) (fun c_83 => ?_)
        · refine z_bipush C dX9_meansAll_91 rfl ?_
          exact J93 (32) (by unfold aD; first | (rw [if_pos (by omega)]; done) | (rw [if_neg (by omega), if_pos (by omega)]; done) | (rw [if_neg (by omega), if_neg (by omega)]; done)) (by first | with_reducible assumption | omega | with_reducible rfl) H locs hP hD hS ls (lv_sub hl [0, 1] rfl)
        · refine z_bipush C dX9_meansAll_86 rfl ?_
          refine lv_goto (tgt := 93) hx hb dX9_meansAll_88 (by decide) ?_
          exact J93 (16) (by unfold aD; first | (rw [if_pos (by omega)]; done) | (rw [if_neg (by omega), if_pos (by omega)]; done) | (rw [if_neg (by omega), if_neg (by omega)]; done)) (by first | with_reducible assumption | omega | with_reducible rfl) H locs hP hD hS ls (lv_sub hl [0, 1] rfl)
      · refine z_iconst C dX9_meansAll_71 ?_
        refine lv_goto (tgt := 93) hx hb dX9_meansAll_72 (by decide) ?_
        exact J93 (0) (by unfold aD; first | (rw [if_pos (by omega)]; done) | (rw [if_neg (by omega), if_pos (by omega)]; done) | (rw [if_neg (by omega), if_neg (by omega)]; done)) (by first | with_reducible assumption | omega | with_reducible rfl) H locs hP hD hS ls (lv_sub hl [0, 1] rfl)
    · refine lv_aload_n hx hb dX9_meansAll_37 rfl (lv_at hl 0 rfl) ?_
      refine z_get C hP 0 rfl rfl in_X9 5 (by decide) q1889 rfl dX9_meansAll_38 ?_
      refine lv_iload_n hx hb dX9_meansAll_41 rfl (lv_at hl 1 rfl) ?_
      refine z_iald C hP 1 rfl (k) rfl (by omega) (by decide) dX9_meansAll_42 ?_
      refine z_bipush C dX9_meansAll_43 rfl ?_
      refine z_icmp_eq (tgt := 60) C ⟨by omega, by omega⟩ ⟨by decide, by decide⟩ dX9_meansAll_45 (by decide) (fun c_45 => ?_) (fun c_45 => ?_)
      · have J93 : ∀ (d : Nat), (d = aD (kf k)) → (d ≤ 32) → ∀ (H : Heap) (locs : List Loc), va_P D vwCl [(a, .inr (9, [v0, v1, v2, v3, v4, .ref (qk), .ref (qp), .ref (qu), v8, v9, .int (zI ((tk : Nat) : Int)), v11, .int (zI ((ft : Nat) : Int)), v13, .int (zI ((g.1 : Nat) : Int)), .int (zI (g.2)), v16, v17, v18, v19, v20, v21, .int (zI ((w : Nat) : Int)), .int (zI ((le : Nat) : Int)), .int (zB (ra)), .int (zB (rl)), .ref (qf), v27, v28, v29, v30, v31, v32, v33, v34, v35, v36, v37, v38, v39, v40, v41, v42, v43, v44])), (qk, .inl (dA 3, 403, .inl (fun jz => zI (kf jz)))), (qp, .inl (dA 3, 403, .inl (fun jz => zI (pf jz)))), (qu, .inl (dA 3, 403, .inl (fun jz => zI (uf jz)))), (qf, .inl (dA 3, 66, .inl (fun jz => zI (fr jz))))] H → va_D A [(a, .inr (9, [v0, v1, v2, v3, v4, .ref (qk), .ref (qp), .ref (qu), v8, v9, .int (zI ((tk : Nat) : Int)), v11, .int (zI ((ft : Nat) : Int)), v13, .int (zI ((g.1 : Nat) : Int)), .int (zI (g.2)), v16, v17, v18, v19, v20, v21, .int (zI ((w : Nat) : Int)), .int (zI ((le : Nat) : Int)), .int (zB (ra)), .int (zB (rl)), .ref (qf), v27, v28, v29, v30, v31, v32, v33, v34, v35, v36, v37, v38, v39, v40, v41, v42, v43, v44])), (qk, .inl (dA 3, 403, .inl (fun jz => zI (kf jz)))), (qp, .inl (dA 3, 403, .inl (fun jz => zI (pf jz)))), (qu, .inl (dA 3, 403, .inl (fun jz => zI (uf jz)))), (qf, .inl (dA 3, 66, .inl (fun jz => zI (fr jz))))] → va_S A ss.heap H locs → ∀ ls : Array Slot, lv_has ls 5 [(0, .ref (a)), (1, .int (zI ((k : Nat) : Int)))] → W pp l ee (zRmW 2 45 0 0) ss mm args below meth cd H locs 0 0 Q (F0 mm 93 ls [.int (zI ((d : Nat) : Int))]) := by
          intro d ad9 d9 H locs hP hD hS ls hl
          have ak9 : aK (kf k) = true := decide_eq_true (by omega)
          refine lv_istore_n (lv' := [(2, .int (zI ((d : Nat) : Int))), (0, .ref (a)), (1, .int (zI ((k : Nat) : Int)))]) hx hb dX9_meansAll_93 rfl hl (by decide) rfl (fun ls hl => ?_)
          refine lv_aload_n hx hb dX9_meansAll_94 rfl (lv_at hl 1 rfl) ?_
          refine lv_iload_n hx hb dX9_meansAll_95 rfl (lv_at hl 2 rfl) ?_
          refine z_iconst C dX9_meansAll_96 ?_
          refine z_iaddN C (k) (1) rfl rfl dX9_meansAll_97 ?_
          refine z_gV (n := 1) (As := [.int (zI (((k + 1) : Nat) : Int))]) (rest := []) (wc := [(a, .inr (9, [v0, v1, v2, v3, v4, .ref (qk), .ref (qp), .ref (qu), v8, v9, .int (zI ((tk : Nat) : Int)), v11, .int (zI ((ft : Nat) : Int)), v13, .int (zI ((g.1 : Nat) : Int)), .int (zI (g.2)), v16, v17, v18, v19, v20, v21, .int (zI ((w : Nat) : Int)), .int (zI ((le : Nat) : Int)), .int (zB (ra)), .int (zB (rl)), .ref (qf), v27, v28, v29, v30, v31, v32, v33, v34, v35, v36, v37, v38, v39, v40, v41, v42, v43, v44])), (qk, .inl (dA 3, 403, .inl (fun jz => zI (kf jz)))), (qp, .inl (dA 3, 403, .inl (fun jz => zI (pf jz)))), (qu, .inl (dA 3, 403, .inl (fun jz => zI (uf jz))))]) (wr := [(qf, .inl (dA 3, 66, .inl (fun jz => zI (fr jz))))]) C hP hD hS hA [0, 1, 2, 3] [4] rfl rfl (by decide) (by decide) (by decide) (k_X9_jAt l D dA (a) (v0) (v1) (v2) (v3) (v4) (v8) (v9) (v11) (v13) (v16) (v17) (v18) (v19) (v20) (v21) (v27) (v28) (v29) (v30) (v31) (v32) (v33) (v34) (v35) (v36) (v37) (v38) (v39) (v40) (v41) (v42) (v43) (v44) (qk) (qp) (qu) (qf) (ft) (w) (le) (tk) (ra) (rl) (kf) (pf) (uf) (g) ((k + 1)) (by first | with_reducible assumption | omega | with_reducible rfl) (by first | with_reducible assumption | omega | with_reducible rfl) (by first | with_reducible assumption | omega | with_reducible rfl) (by first | with_reducible assumption | omega | with_reducible rfl) (by first | with_reducible assumption | omega | with_reducible rfl) (by first | with_reducible assumption | omega | with_reducible rfl)) (lw_V q2101 q2103 qs78 q124 q2104) (by decide +kernel) rfl ⟨Nat.le_of_ble_eq_true rfl, Nat.le_of_ble_eq_true rfl⟩ hl.1 0 rfl rfl rfl (Nat.le_of_ble_eq_true rfl) dX9_meansAll_98 (by decide) (by decide) (fun u_98 H locs hp_98 hP hD hS _ => ?_)
          obtain ⟨g1_3, rfl⟩ : ∃ z, z = u_98 := ⟨_, rfl⟩
          have hP := hP.sub (ws' := [(a, .inr (9, [v0, v1, v2, v3, v4, .ref (qk), .ref (qp), .ref (qu), v8, v9, .int (zI ((tk : Nat) : Int)), v11, .int (zI ((ft : Nat) : Int)), v13, .int (zI ((g1_3.1 : Nat) : Int)), .int (zI (g1_3.2)), v16, v17, v18, v19, v20, v21, .int (zI ((w : Nat) : Int)), .int (zI ((le : Nat) : Int)), .int (zB (ra)), .int (zB (rl)), .ref (qf), v27, v28, v29, v30, v31, v32, v33, v34, v35, v36, v37, v38, v39, v40, v41, v42, v43, v44])), (qk, .inl (dA 3, 403, .inl (fun jz => zI (kf jz)))), (qp, .inl (dA 3, 403, .inl (fun jz => zI (pf jz)))), (qu, .inl (dA 3, 403, .inl (fun jz => zI (uf jz)))), (qf, .inl (dA 3, 66, .inl (fun jz => zI (fr jz))))]) [1, 2, 3, 4, 0] rfl
          have hD := hD.sub (ws' := [(a, .inr (9, [v0, v1, v2, v3, v4, .ref (qk), .ref (qp), .ref (qu), v8, v9, .int (zI ((tk : Nat) : Int)), v11, .int (zI ((ft : Nat) : Int)), v13, .int (zI ((g1_3.1 : Nat) : Int)), .int (zI (g1_3.2)), v16, v17, v18, v19, v20, v21, .int (zI ((w : Nat) : Int)), .int (zI ((le : Nat) : Int)), .int (zB (ra)), .int (zB (rl)), .ref (qf), v27, v28, v29, v30, v31, v32, v33, v34, v35, v36, v37, v38, v39, v40, v41, v42, v43, v44])), (qk, .inl (dA 3, 403, .inl (fun jz => zI (kf jz)))), (qp, .inl (dA 3, 403, .inl (fun jz => zI (pf jz)))), (qu, .inl (dA 3, 403, .inl (fun jz => zI (uf jz)))), (qf, .inl (dA 3, 66, .inl (fun jz => zI (fr jz))))]) [1, 2, 3, 4, 0] (by decide) rfl
          have hp_98 : g1_3 = jG kf pf uf ((k + 1)) g ∧ wOk g1_3 := hp_98
          refine W.widen (k := 0) (n := 0) (Nat.le_of_ble_eq_true rfl) (Nat.le_of_ble_eq_true rfl) ?_
          refine z_nm (fun jv_4 e_jv_4 => ?_)
          have jb9 := jV_b (kf := kf) bu (k + 1)
          have e9 : aG kf pf uf k g = g1_3 := by unfold aG; rw [if_pos ak9]; exact hp_98.1.symm
          have ok8 := hp_98.2
          refine lv_istore_n (lv' := [(3, .int (zI (jv_4))), (2, .int (zI ((d : Nat) : Int))), (0, .ref (a)), (1, .int (zI ((k : Nat) : Int)))]) hx hb dX9_meansAll_101 rfl hl (by decide) rfl (fun ls hl => ?_)
          refine z_iconst C dX9_meansAll_102 ?_
          refine lv_istore (lv' := [(4, .int (zI 0)), (3, .int (zI (jv_4))), (2, .int (zI ((d : Nat) : Int))), (0, .ref (a)), (1, .int (zI ((k : Nat) : Int)))]) hx hb dX9_meansAll_103 hl (by decide) rfl (fun ls hl => ?_)
          have L105 : ∀ (N : Nat) (si : Nat), (si ≤ 16) → (16 - si) < N → ∀ (H : Heap) (locs : List Loc), va_P D vwCl [(a, .inr (9, [v0, v1, v2, v3, v4, .ref (qk), .ref (qp), .ref (qu), v8, v9, .int (zI ((tk : Nat) : Int)), v11, .int (zI ((ft : Nat) : Int)), v13, .int (zI ((g1_3.1 : Nat) : Int)), .int (zI (g1_3.2)), v16, v17, v18, v19, v20, v21, .int (zI ((w : Nat) : Int)), .int (zI ((le : Nat) : Int)), .int (zB (ra)), .int (zB (rl)), .ref (qf), v27, v28, v29, v30, v31, v32, v33, v34, v35, v36, v37, v38, v39, v40, v41, v42, v43, v44])), (qk, .inl (dA 3, 403, .inl (fun jz => zI (kf jz)))), (qp, .inl (dA 3, 403, .inl (fun jz => zI (pf jz)))), (qu, .inl (dA 3, 403, .inl (fun jz => zI (uf jz)))), (qf, .inl (dA 3, 66, .inl (fun jz => zI ((flN fr d jv_4 si) jz))))] H → va_D A [(a, .inr (9, [v0, v1, v2, v3, v4, .ref (qk), .ref (qp), .ref (qu), v8, v9, .int (zI ((tk : Nat) : Int)), v11, .int (zI ((ft : Nat) : Int)), v13, .int (zI ((g1_3.1 : Nat) : Int)), .int (zI (g1_3.2)), v16, v17, v18, v19, v20, v21, .int (zI ((w : Nat) : Int)), .int (zI ((le : Nat) : Int)), .int (zB (ra)), .int (zB (rl)), .ref (qf), v27, v28, v29, v30, v31, v32, v33, v34, v35, v36, v37, v38, v39, v40, v41, v42, v43, v44])), (qk, .inl (dA 3, 403, .inl (fun jz => zI (kf jz)))), (qp, .inl (dA 3, 403, .inl (fun jz => zI (pf jz)))), (qu, .inl (dA 3, 403, .inl (fun jz => zI (uf jz)))), (qf, .inl (dA 3, 66, .inl (fun jz => zI ((flN fr d jv_4 si) jz))))] → va_S A ss.heap H locs → ∀ ls : Array Slot, lv_has ls 5 [(0, .ref (a)), (1, .int (zI ((k : Nat) : Int))), (2, .int (zI ((d : Nat) : Int))), (3, .int (zI (jv_4))), (4, .int (zI ((si : Nat) : Int)))] → W pp l ee (zRmW 2 45 0 0) ss mm args below meth cd H locs 0 0 Q (F0 mm 105 ls []) := by
            intro N
            induction N with
            | zero => intro si _ hm; exact absurd hm (Nat.not_lt_zero _)
            | succ N ih105 =>
              intro si hsi hmz105 H locs hP hD hS ls hl
              refine lv_iload hx hb dX9_meansAll_105 (lv_at hl 4 rfl) ?_
              refine z_bipush C dX9_meansAll_107 rfl ?_
              refine z_icmp_ge (tgt := 128) C ⟨by omega, by omega⟩ ⟨by decide, by decide⟩ dX9_meansAll_109 (by decide) (fun c_109 => ?_) (fun c_109 => ?_)
              · have e7 : aF kf uf k fr = (flN fr d jv_4 si) := by unfold aF; rw [if_neg (by have := of_decide_eq_true ak9; omega), if_pos ak9, ← ad9, show si = 16 by omega, e_jv_4]
                exact z_vretG C hlk hr hQ ⟨g1_3, (flN fr d jv_4 si)⟩ rfl ⟨⟨e9.symm, ok8⟩, e7.symm⟩ (hP.sub [0, 1, 2, 3, 4] rfl) (hD.sub [0, 1, 2, 3, 4] (by decide) rfl) hS (Nat.le_of_ble_eq_true rfl) (Nat.le_of_ble_eq_true rfl) dX9_meansAll_128
              · refine lv_aload_n hx hb dX9_meansAll_112 rfl (lv_at hl 0 rfl) ?_
                refine z_get C hP 0 rfl rfl in_X9 26 (by decide) q1910 rfl dX9_meansAll_113 ?_
                refine lv_iload_n hx hb dX9_meansAll_116 rfl (lv_at hl 2 rfl) ?_
                refine lv_iload hx hb dX9_meansAll_117 (lv_at hl 4 rfl) ?_
                refine z_iaddN C (d) (si) rfl rfl dX9_meansAll_119 ?_
                refine lv_iload_n hx hb dX9_meansAll_120 rfl (lv_at hl 3 rfl) ?_
                refine z_iast C hP hD hS 4 rfl ((d + si)) rfl (by omega) (by decide) (v := (jv_4)) (ws' := [(a, .inr (9, [v0, v1, v2, v3, v4, .ref (qk), .ref (qp), .ref (qu), v8, v9, .int (zI ((tk : Nat) : Int)), v11, .int (zI ((ft : Nat) : Int)), v13, .int (zI ((g1_3.1 : Nat) : Int)), .int (zI (g1_3.2)), v16, v17, v18, v19, v20, v21, .int (zI ((w : Nat) : Int)), .int (zI ((le : Nat) : Int)), .int (zB (ra)), .int (zB (rl)), .ref (qf), v27, v28, v29, v30, v31, v32, v33, v34, v35, v36, v37, v38, v39, v40, v41, v42, v43, v44])), (qk, .inl (dA 3, 403, .inl (fun jz => zI (kf jz)))), (qp, .inl (dA 3, 403, .inl (fun jz => zI (pf jz)))), (qu, .inl (dA 3, 403, .inl (fun jz => zI (uf jz)))), (qf, .inl (dA 3, 66, .inl (fun jz => zI ((va_up (flN fr d jv_4 si) (d + si) (jv_4)) jz))))]) rfl dX9_meansAll_121 (fun H locs hP hD hS => ?_)
                refine lv_iinc (v := zI ((si + 1 : Nat) : Int)) (lv' := [(4, .int (zI ((si + 1 : Nat) : Int))), (0, .ref (a)), (1, .int (zI ((k : Nat) : Int))), (2, .int (zI ((d : Nat) : Int))), (3, .int (zI (jv_4)))]) hx hb dX9_meansAll_122 hl (k := 4) rfl (zI_inc (by omega)) (by decide) rfl (fun ls hl => ?_)
                refine lv_goto (tgt := 105) hx hb dX9_meansAll_125 (by decide) ?_
                exact ih105 (si + 1) (by first | with_reducible assumption | omega | with_reducible rfl) (by omega) H locs hP hD hS ls (lv_sub hl [1, 2, 3, 4, 0] rfl)
          exact L105 ((16 - 0) + 1) (0) (by first | with_reducible assumption | omega | with_reducible rfl) (by omega) H locs hP hD hS ls (lv_sub hl [3, 4, 2, 1, 0] rfl)
        refine lv_aload_n hx hb dX9_meansAll_60 rfl (lv_at hl 0 rfl) ?_
        refine z_get C hP 0 rfl rfl in_X9 5 (by decide) q1889 rfl dX9_meansAll_61 ?_
        refine lv_iload_n hx hb dX9_meansAll_64 rfl (lv_at hl 1 rfl) ?_
        refine z_iald C hP 1 rfl (k) rfl (by omega) (by decide) dX9_meansAll_65 ?_
        refine z_bipush C dX9_meansAll_66 rfl ?_
        refine z_icmp_ne (tgt := 75) C ⟨by omega, by omega⟩ ⟨by decide, by decide⟩ dX9_meansAll_68 (by decide) (fun c_68 => ?_) (fun c_68 => ?_)
        · refine lv_aload_n hx hb dX9_meansAll_75 rfl (lv_at hl 0 rfl) ?_
          refine z_get C hP 0 rfl rfl in_X9 5 (by decide) q1889 rfl dX9_meansAll_76 ?_
          refine lv_iload_n hx hb dX9_meansAll_79 rfl (lv_at hl 1 rfl) ?_
          refine z_iald C hP 1 rfl (k) rfl (by omega) (by decide) dX9_meansAll_80 ?_
          refine z_bipush C dX9_meansAll_81 rfl ?_
          refine z_icmp_ne (tgt := 91) C ⟨by omega, by omega⟩ ⟨by decide, by decide⟩ dX9_meansAll_83 (by decide) (fun c_83 => ?_) (fun c_83 => ?_)
          · refine z_bipush C dX9_meansAll_91 rfl ?_
            exact J93 (32) (by unfold aD; first | (rw [if_pos (by omega)]; done) | (rw [if_neg (by omega), if_pos (by omega)]; done) | (rw [if_neg (by omega), if_neg (by omega)]; done)) (by first | with_reducible assumption | omega | with_reducible rfl) H locs hP hD hS ls (lv_sub hl [0, 1] rfl)
          · refine z_bipush C dX9_meansAll_86 rfl ?_
            refine lv_goto (tgt := 93) hx hb dX9_meansAll_88 (by decide) ?_
            exact J93 (16) (by unfold aD; first | (rw [if_pos (by omega)]; done) | (rw [if_neg (by omega), if_pos (by omega)]; done) | (rw [if_neg (by omega), if_neg (by omega)]; done)) (by first | with_reducible assumption | omega | with_reducible rfl) H locs hP hD hS ls (lv_sub hl [0, 1] rfl)
        · refine z_iconst C dX9_meansAll_71 ?_
          refine lv_goto (tgt := 93) hx hb dX9_meansAll_72 (by decide) ?_
          exact J93 (0) (by unfold aD; first | (rw [if_pos (by omega)]; done) | (rw [if_neg (by omega), if_pos (by omega)]; done) | (rw [if_neg (by omega), if_neg (by omega)]; done)) (by first | with_reducible assumption | omega | with_reducible rfl) H locs hP hD hS ls (lv_sub hl [0, 1] rfl)
      · refine lv_aload_n hx hb dX9_meansAll_48 rfl (lv_at hl 0 rfl) ?_
        refine z_get C hP 0 rfl rfl in_X9 5 (by decide) q1889 rfl dX9_meansAll_49 ?_
        refine lv_iload_n hx hb dX9_meansAll_52 rfl (lv_at hl 1 rfl) ?_
        refine z_iald C hP 1 rfl (k) rfl (by omega) (by decide) dX9_meansAll_53 ?_
        refine z_bipush C dX9_meansAll_54 rfl ?_
        refine z_icmp_eq (tgt := 60) C ⟨by omega, by omega⟩ ⟨by decide, by decide⟩ dX9_meansAll_56 (by decide) (fun c_56 => ?_) (fun c_56 => ?_)
        · have J93 : ∀ (d : Nat), (d = aD (kf k)) → (d ≤ 32) → ∀ (H : Heap) (locs : List Loc), va_P D vwCl [(a, .inr (9, [v0, v1, v2, v3, v4, .ref (qk), .ref (qp), .ref (qu), v8, v9, .int (zI ((tk : Nat) : Int)), v11, .int (zI ((ft : Nat) : Int)), v13, .int (zI ((g.1 : Nat) : Int)), .int (zI (g.2)), v16, v17, v18, v19, v20, v21, .int (zI ((w : Nat) : Int)), .int (zI ((le : Nat) : Int)), .int (zB (ra)), .int (zB (rl)), .ref (qf), v27, v28, v29, v30, v31, v32, v33, v34, v35, v36, v37, v38, v39, v40, v41, v42, v43, v44])), (qk, .inl (dA 3, 403, .inl (fun jz => zI (kf jz)))), (qp, .inl (dA 3, 403, .inl (fun jz => zI (pf jz)))), (qu, .inl (dA 3, 403, .inl (fun jz => zI (uf jz)))), (qf, .inl (dA 3, 66, .inl (fun jz => zI (fr jz))))] H → va_D A [(a, .inr (9, [v0, v1, v2, v3, v4, .ref (qk), .ref (qp), .ref (qu), v8, v9, .int (zI ((tk : Nat) : Int)), v11, .int (zI ((ft : Nat) : Int)), v13, .int (zI ((g.1 : Nat) : Int)), .int (zI (g.2)), v16, v17, v18, v19, v20, v21, .int (zI ((w : Nat) : Int)), .int (zI ((le : Nat) : Int)), .int (zB (ra)), .int (zB (rl)), .ref (qf), v27, v28, v29, v30, v31, v32, v33, v34, v35, v36, v37, v38, v39, v40, v41, v42, v43, v44])), (qk, .inl (dA 3, 403, .inl (fun jz => zI (kf jz)))), (qp, .inl (dA 3, 403, .inl (fun jz => zI (pf jz)))), (qu, .inl (dA 3, 403, .inl (fun jz => zI (uf jz)))), (qf, .inl (dA 3, 66, .inl (fun jz => zI (fr jz))))] → va_S A ss.heap H locs → ∀ ls : Array Slot, lv_has ls 5 [(0, .ref (a)), (1, .int (zI ((k : Nat) : Int)))] → W pp l ee (zRmW 2 45 0 0) ss mm args below meth cd H locs 0 0 Q (F0 mm 93 ls [.int (zI ((d : Nat) : Int))]) := by
            intro d ad9 d9 H locs hP hD hS ls hl
            have ak9 : aK (kf k) = true := decide_eq_true (by omega)
            refine lv_istore_n (lv' := [(2, .int (zI ((d : Nat) : Int))), (0, .ref (a)), (1, .int (zI ((k : Nat) : Int)))]) hx hb dX9_meansAll_93 rfl hl (by decide) rfl (fun ls hl => ?_)
            refine lv_aload_n hx hb dX9_meansAll_94 rfl (lv_at hl 1 rfl) ?_
            refine lv_iload_n hx hb dX9_meansAll_95 rfl (lv_at hl 2 rfl) ?_
            refine z_iconst C dX9_meansAll_96 ?_
            refine z_iaddN C (k) (1) rfl rfl dX9_meansAll_97 ?_
            refine z_gV (n := 1) (As := [.int (zI (((k + 1) : Nat) : Int))]) (rest := []) (wc := [(a, .inr (9, [v0, v1, v2, v3, v4, .ref (qk), .ref (qp), .ref (qu), v8, v9, .int (zI ((tk : Nat) : Int)), v11, .int (zI ((ft : Nat) : Int)), v13, .int (zI ((g.1 : Nat) : Int)), .int (zI (g.2)), v16, v17, v18, v19, v20, v21, .int (zI ((w : Nat) : Int)), .int (zI ((le : Nat) : Int)), .int (zB (ra)), .int (zB (rl)), .ref (qf), v27, v28, v29, v30, v31, v32, v33, v34, v35, v36, v37, v38, v39, v40, v41, v42, v43, v44])), (qk, .inl (dA 3, 403, .inl (fun jz => zI (kf jz)))), (qp, .inl (dA 3, 403, .inl (fun jz => zI (pf jz)))), (qu, .inl (dA 3, 403, .inl (fun jz => zI (uf jz))))]) (wr := [(qf, .inl (dA 3, 66, .inl (fun jz => zI (fr jz))))]) C hP hD hS hA [0, 1, 2, 3] [4] rfl rfl (by decide) (by decide) (by decide) (k_X9_jAt l D dA (a) (v0) (v1) (v2) (v3) (v4) (v8) (v9) (v11) (v13) (v16) (v17) (v18) (v19) (v20) (v21) (v27) (v28) (v29) (v30) (v31) (v32) (v33) (v34) (v35) (v36) (v37) (v38) (v39) (v40) (v41) (v42) (v43) (v44) (qk) (qp) (qu) (qf) (ft) (w) (le) (tk) (ra) (rl) (kf) (pf) (uf) (g) ((k + 1)) (by first | with_reducible assumption | omega | with_reducible rfl) (by first | with_reducible assumption | omega | with_reducible rfl) (by first | with_reducible assumption | omega | with_reducible rfl) (by first | with_reducible assumption | omega | with_reducible rfl) (by first | with_reducible assumption | omega | with_reducible rfl) (by first | with_reducible assumption | omega | with_reducible rfl)) (lw_V q2101 q2103 qs78 q124 q2104) (by decide +kernel) rfl ⟨Nat.le_of_ble_eq_true rfl, Nat.le_of_ble_eq_true rfl⟩ hl.1 0 rfl rfl rfl (Nat.le_of_ble_eq_true rfl) dX9_meansAll_98 (by decide) (by decide) (fun u_98 H locs hp_98 hP hD hS _ => ?_)
            obtain ⟨g1_5, rfl⟩ : ∃ z, z = u_98 := ⟨_, rfl⟩
            have hP := hP.sub (ws' := [(a, .inr (9, [v0, v1, v2, v3, v4, .ref (qk), .ref (qp), .ref (qu), v8, v9, .int (zI ((tk : Nat) : Int)), v11, .int (zI ((ft : Nat) : Int)), v13, .int (zI ((g1_5.1 : Nat) : Int)), .int (zI (g1_5.2)), v16, v17, v18, v19, v20, v21, .int (zI ((w : Nat) : Int)), .int (zI ((le : Nat) : Int)), .int (zB (ra)), .int (zB (rl)), .ref (qf), v27, v28, v29, v30, v31, v32, v33, v34, v35, v36, v37, v38, v39, v40, v41, v42, v43, v44])), (qk, .inl (dA 3, 403, .inl (fun jz => zI (kf jz)))), (qp, .inl (dA 3, 403, .inl (fun jz => zI (pf jz)))), (qu, .inl (dA 3, 403, .inl (fun jz => zI (uf jz)))), (qf, .inl (dA 3, 66, .inl (fun jz => zI (fr jz))))]) [1, 2, 3, 4, 0] rfl
            have hD := hD.sub (ws' := [(a, .inr (9, [v0, v1, v2, v3, v4, .ref (qk), .ref (qp), .ref (qu), v8, v9, .int (zI ((tk : Nat) : Int)), v11, .int (zI ((ft : Nat) : Int)), v13, .int (zI ((g1_5.1 : Nat) : Int)), .int (zI (g1_5.2)), v16, v17, v18, v19, v20, v21, .int (zI ((w : Nat) : Int)), .int (zI ((le : Nat) : Int)), .int (zB (ra)), .int (zB (rl)), .ref (qf), v27, v28, v29, v30, v31, v32, v33, v34, v35, v36, v37, v38, v39, v40, v41, v42, v43, v44])), (qk, .inl (dA 3, 403, .inl (fun jz => zI (kf jz)))), (qp, .inl (dA 3, 403, .inl (fun jz => zI (pf jz)))), (qu, .inl (dA 3, 403, .inl (fun jz => zI (uf jz)))), (qf, .inl (dA 3, 66, .inl (fun jz => zI (fr jz))))]) [1, 2, 3, 4, 0] (by decide) rfl
            have hp_98 : g1_5 = jG kf pf uf ((k + 1)) g ∧ wOk g1_5 := hp_98
            refine W.widen (k := 0) (n := 0) (Nat.le_of_ble_eq_true rfl) (Nat.le_of_ble_eq_true rfl) ?_
            refine z_nm (fun jv_6 e_jv_6 => ?_)
            have jb9 := jV_b (kf := kf) bu (k + 1)
            have e9 : aG kf pf uf k g = g1_5 := by unfold aG; rw [if_pos ak9]; exact hp_98.1.symm
            have ok8 := hp_98.2
            refine lv_istore_n (lv' := [(3, .int (zI (jv_6))), (2, .int (zI ((d : Nat) : Int))), (0, .ref (a)), (1, .int (zI ((k : Nat) : Int)))]) hx hb dX9_meansAll_101 rfl hl (by decide) rfl (fun ls hl => ?_)
            refine z_iconst C dX9_meansAll_102 ?_
            refine lv_istore (lv' := [(4, .int (zI 0)), (3, .int (zI (jv_6))), (2, .int (zI ((d : Nat) : Int))), (0, .ref (a)), (1, .int (zI ((k : Nat) : Int)))]) hx hb dX9_meansAll_103 hl (by decide) rfl (fun ls hl => ?_)
            have L105 : ∀ (N : Nat) (si : Nat), (si ≤ 16) → (16 - si) < N → ∀ (H : Heap) (locs : List Loc), va_P D vwCl [(a, .inr (9, [v0, v1, v2, v3, v4, .ref (qk), .ref (qp), .ref (qu), v8, v9, .int (zI ((tk : Nat) : Int)), v11, .int (zI ((ft : Nat) : Int)), v13, .int (zI ((g1_5.1 : Nat) : Int)), .int (zI (g1_5.2)), v16, v17, v18, v19, v20, v21, .int (zI ((w : Nat) : Int)), .int (zI ((le : Nat) : Int)), .int (zB (ra)), .int (zB (rl)), .ref (qf), v27, v28, v29, v30, v31, v32, v33, v34, v35, v36, v37, v38, v39, v40, v41, v42, v43, v44])), (qk, .inl (dA 3, 403, .inl (fun jz => zI (kf jz)))), (qp, .inl (dA 3, 403, .inl (fun jz => zI (pf jz)))), (qu, .inl (dA 3, 403, .inl (fun jz => zI (uf jz)))), (qf, .inl (dA 3, 66, .inl (fun jz => zI ((flN fr d jv_6 si) jz))))] H → va_D A [(a, .inr (9, [v0, v1, v2, v3, v4, .ref (qk), .ref (qp), .ref (qu), v8, v9, .int (zI ((tk : Nat) : Int)), v11, .int (zI ((ft : Nat) : Int)), v13, .int (zI ((g1_5.1 : Nat) : Int)), .int (zI (g1_5.2)), v16, v17, v18, v19, v20, v21, .int (zI ((w : Nat) : Int)), .int (zI ((le : Nat) : Int)), .int (zB (ra)), .int (zB (rl)), .ref (qf), v27, v28, v29, v30, v31, v32, v33, v34, v35, v36, v37, v38, v39, v40, v41, v42, v43, v44])), (qk, .inl (dA 3, 403, .inl (fun jz => zI (kf jz)))), (qp, .inl (dA 3, 403, .inl (fun jz => zI (pf jz)))), (qu, .inl (dA 3, 403, .inl (fun jz => zI (uf jz)))), (qf, .inl (dA 3, 66, .inl (fun jz => zI ((flN fr d jv_6 si) jz))))] → va_S A ss.heap H locs → ∀ ls : Array Slot, lv_has ls 5 [(0, .ref (a)), (1, .int (zI ((k : Nat) : Int))), (2, .int (zI ((d : Nat) : Int))), (3, .int (zI (jv_6))), (4, .int (zI ((si : Nat) : Int)))] → W pp l ee (zRmW 2 45 0 0) ss mm args below meth cd H locs 0 0 Q (F0 mm 105 ls []) := by
              intro N
              induction N with
              | zero => intro si _ hm; exact absurd hm (Nat.not_lt_zero _)
              | succ N ih105 =>
                intro si hsi hmz105 H locs hP hD hS ls hl
                refine lv_iload hx hb dX9_meansAll_105 (lv_at hl 4 rfl) ?_
                refine z_bipush C dX9_meansAll_107 rfl ?_
                refine z_icmp_ge (tgt := 128) C ⟨by omega, by omega⟩ ⟨by decide, by decide⟩ dX9_meansAll_109 (by decide) (fun c_109 => ?_) (fun c_109 => ?_)
                · have e7 : aF kf uf k fr = (flN fr d jv_6 si) := by unfold aF; rw [if_neg (by have := of_decide_eq_true ak9; omega), if_pos ak9, ← ad9, show si = 16 by omega, e_jv_6]
                  exact z_vretG C hlk hr hQ ⟨g1_5, (flN fr d jv_6 si)⟩ rfl ⟨⟨e9.symm, ok8⟩, e7.symm⟩ (hP.sub [0, 1, 2, 3, 4] rfl) (hD.sub [0, 1, 2, 3, 4] (by decide) rfl) hS (Nat.le_of_ble_eq_true rfl) (Nat.le_of_ble_eq_true rfl) dX9_meansAll_128
                · refine lv_aload_n hx hb dX9_meansAll_112 rfl (lv_at hl 0 rfl) ?_
                  refine z_get C hP 0 rfl rfl in_X9 26 (by decide) q1910 rfl dX9_meansAll_113 ?_
                  refine lv_iload_n hx hb dX9_meansAll_116 rfl (lv_at hl 2 rfl) ?_
                  refine lv_iload hx hb dX9_meansAll_117 (lv_at hl 4 rfl) ?_
                  refine z_iaddN C (d) (si) rfl rfl dX9_meansAll_119 ?_
                  refine lv_iload_n hx hb dX9_meansAll_120 rfl (lv_at hl 3 rfl) ?_
                  refine z_iast C hP hD hS 4 rfl ((d + si)) rfl (by omega) (by decide) (v := (jv_6)) (ws' := [(a, .inr (9, [v0, v1, v2, v3, v4, .ref (qk), .ref (qp), .ref (qu), v8, v9, .int (zI ((tk : Nat) : Int)), v11, .int (zI ((ft : Nat) : Int)), v13, .int (zI ((g1_5.1 : Nat) : Int)), .int (zI (g1_5.2)), v16, v17, v18, v19, v20, v21, .int (zI ((w : Nat) : Int)), .int (zI ((le : Nat) : Int)), .int (zB (ra)), .int (zB (rl)), .ref (qf), v27, v28, v29, v30, v31, v32, v33, v34, v35, v36, v37, v38, v39, v40, v41, v42, v43, v44])), (qk, .inl (dA 3, 403, .inl (fun jz => zI (kf jz)))), (qp, .inl (dA 3, 403, .inl (fun jz => zI (pf jz)))), (qu, .inl (dA 3, 403, .inl (fun jz => zI (uf jz)))), (qf, .inl (dA 3, 66, .inl (fun jz => zI ((va_up (flN fr d jv_6 si) (d + si) (jv_6)) jz))))]) rfl dX9_meansAll_121 (fun H locs hP hD hS => ?_)
                  refine lv_iinc (v := zI ((si + 1 : Nat) : Int)) (lv' := [(4, .int (zI ((si + 1 : Nat) : Int))), (0, .ref (a)), (1, .int (zI ((k : Nat) : Int))), (2, .int (zI ((d : Nat) : Int))), (3, .int (zI (jv_6)))]) hx hb dX9_meansAll_122 hl (k := 4) rfl (zI_inc (by omega)) (by decide) rfl (fun ls hl => ?_)
                  refine lv_goto (tgt := 105) hx hb dX9_meansAll_125 (by decide) ?_
                  exact ih105 (si + 1) (by first | with_reducible assumption | omega | with_reducible rfl) (by omega) H locs hP hD hS ls (lv_sub hl [1, 2, 3, 4, 0] rfl)
            exact L105 ((16 - 0) + 1) (0) (by first | with_reducible assumption | omega | with_reducible rfl) (by omega) H locs hP hD hS ls (lv_sub hl [3, 4, 2, 1, 0] rfl)
          refine lv_aload_n hx hb dX9_meansAll_60 rfl (lv_at hl 0 rfl) ?_
          refine z_get C hP 0 rfl rfl in_X9 5 (by decide) q1889 rfl dX9_meansAll_61 ?_
          refine lv_iload_n hx hb dX9_meansAll_64 rfl (lv_at hl 1 rfl) ?_
          refine z_iald C hP 1 rfl (k) rfl (by omega) (by decide) dX9_meansAll_65 ?_
          refine z_bipush C dX9_meansAll_66 rfl ?_
          refine z_icmp_ne (tgt := 75) C ⟨by omega, by omega⟩ ⟨by decide, by decide⟩ dX9_meansAll_68 (by decide) (fun c_68 => ?_) (fun c_68 => ?_)
          · refine lv_aload_n hx hb dX9_meansAll_75 rfl (lv_at hl 0 rfl) ?_
            refine z_get C hP 0 rfl rfl in_X9 5 (by decide) q1889 rfl dX9_meansAll_76 ?_
            refine lv_iload_n hx hb dX9_meansAll_79 rfl (lv_at hl 1 rfl) ?_
            refine z_iald C hP 1 rfl (k) rfl (by omega) (by decide) dX9_meansAll_80 ?_
            refine z_bipush C dX9_meansAll_81 rfl ?_
            refine z_icmp_ne (tgt := 91) C ⟨by omega, by omega⟩ ⟨by decide, by decide⟩ dX9_meansAll_83 (by decide) (fun c_83 => ?_) (fun c_83 => ?_)
            · refine z_bipush C dX9_meansAll_91 rfl ?_
              exact J93 (32) (by unfold aD; first | (rw [if_pos (by omega)]; done) | (rw [if_neg (by omega), if_pos (by omega)]; done) | (rw [if_neg (by omega), if_neg (by omega)]; done)) (by first | with_reducible assumption | omega | with_reducible rfl) H locs hP hD hS ls (lv_sub hl [0, 1] rfl)
            · refine z_bipush C dX9_meansAll_86 rfl ?_
              refine lv_goto (tgt := 93) hx hb dX9_meansAll_88 (by decide) ?_
              exact J93 (16) (by unfold aD; first | (rw [if_pos (by omega)]; done) | (rw [if_neg (by omega), if_pos (by omega)]; done) | (rw [if_neg (by omega), if_neg (by omega)]; done)) (by first | with_reducible assumption | omega | with_reducible rfl) H locs hP hD hS ls (lv_sub hl [0, 1] rfl)
          · refine z_iconst C dX9_meansAll_71 ?_
            refine lv_goto (tgt := 93) hx hb dX9_meansAll_72 (by decide) ?_
            exact J93 (0) (by unfold aD; first | (rw [if_pos (by omega)]; done) | (rw [if_neg (by omega), if_pos (by omega)]; done) | (rw [if_neg (by omega), if_neg (by omega)]; done)) (by first | with_reducible assumption | omega | with_reducible rfl) H locs hP hD hS ls (lv_sub hl [0, 1] rfl)
        · have e9 : aG kf pf uf k g = g := by unfold aG; rw [if_neg (by intro q; have := of_decide_eq_true q; omega)]
          have ok8 := hg
          have e7 : aF kf uf k fr = fr := by unfold aF; first | (rw [if_pos (by omega)]; done) | (rw [if_neg (by omega), if_neg (by intro q; have := of_decide_eq_true q; omega)]; done)
          exact z_vretG C hlk hr hQ ⟨g, fr⟩ rfl ⟨⟨e9.symm, ok8⟩, e7.symm⟩ (hP.sub [0, 1, 2, 3, 4] rfl) (hD.sub [0, 1, 2, 3, 4] (by decide) rfl) hS (Nat.le_of_ble_eq_true rfl) (Nat.le_of_ble_eq_true rfl) dX9_meansAll_59
  · refine lv_aload_n hx hb dX9_meansAll_11 rfl (lv_at hl 0 rfl) ?_
    refine z_get C hP 0 rfl rfl in_X9 26 (by decide) q1910 rfl dX9_meansAll_12 ?_
    refine z_bipush C dX9_meansAll_15 rfl ?_
    refine lv_aload_n hx hb dX9_meansAll_17 rfl (lv_at hl 0 rfl) ?_
    refine z_get C hP 0 rfl rfl in_X9 7 (by decide) q1891 rfl dX9_meansAll_18 ?_
    refine lv_iload_n hx hb dX9_meansAll_21 rfl (lv_at hl 1 rfl) ?_
    refine z_iconst C dX9_meansAll_22 ?_
    refine z_iaddN C (k) (1) rfl rfl dX9_meansAll_23 ?_
    refine z_iald C hP 3 rfl ((k + 1)) rfl (by omega) (by decide) dX9_meansAll_24 ?_
    refine z_iast C hP hD hS 4 rfl (65) rfl (by omega) (by decide) (v := (uf (k + 1))) (ws' := [(a, .inr (9, [v0, v1, v2, v3, v4, .ref (qk), .ref (qp), .ref (qu), v8, v9, .int (zI ((tk : Nat) : Int)), v11, .int (zI ((ft : Nat) : Int)), v13, .int (zI ((g.1 : Nat) : Int)), .int (zI (g.2)), v16, v17, v18, v19, v20, v21, .int (zI ((w : Nat) : Int)), .int (zI ((le : Nat) : Int)), .int (zB (ra)), .int (zB (rl)), .ref (qf), v27, v28, v29, v30, v31, v32, v33, v34, v35, v36, v37, v38, v39, v40, v41, v42, v43, v44])), (qk, .inl (dA 3, 403, .inl (fun jz => zI (kf jz)))), (qp, .inl (dA 3, 403, .inl (fun jz => zI (pf jz)))), (qu, .inl (dA 3, 403, .inl (fun jz => zI (uf jz)))), (qf, .inl (dA 3, 66, .inl (fun jz => zI ((va_up fr 65 (uf (k + 1))) jz))))]) rfl dX9_meansAll_25 (fun H locs hP hD hS => ?_)
    refine lv_aload_n hx hb dX9_meansAll_26 rfl (lv_at hl 0 rfl) ?_
    refine z_get C hP 0 rfl rfl in_X9 5 (by decide) q1889 rfl dX9_meansAll_27 ?_
    refine lv_iload_n hx hb dX9_meansAll_30 rfl (lv_at hl 1 rfl) ?_
    refine z_iald C hP 1 rfl (k) rfl (by omega) (by decide) dX9_meansAll_31 ?_
    refine z_bipush C dX9_meansAll_32 rfl ?_
    refine z_icmp_eq (tgt := 60) C ⟨by omega, by omega⟩ ⟨by decide, by decide⟩ dX9_meansAll_34 (by decide) (fun c_34 => ?_) (fun c_34 => ?_)
    · exact absurd c_34 (by omega)
    · refine lv_aload_n hx hb dX9_meansAll_37 rfl (lv_at hl 0 rfl) ?_
      refine z_get C hP 0 rfl rfl in_X9 5 (by decide) q1889 rfl dX9_meansAll_38 ?_
      refine lv_iload_n hx hb dX9_meansAll_41 rfl (lv_at hl 1 rfl) ?_
      refine z_iald C hP 1 rfl (k) rfl (by omega) (by decide) dX9_meansAll_42 ?_
      refine z_bipush C dX9_meansAll_43 rfl ?_
      refine z_icmp_eq (tgt := 60) C ⟨by omega, by omega⟩ ⟨by decide, by decide⟩ dX9_meansAll_45 (by decide) (fun c_45 => ?_) (fun c_45 => ?_)
      · exact absurd c_45 (by omega)
      · refine lv_aload_n hx hb dX9_meansAll_48 rfl (lv_at hl 0 rfl) ?_
        refine z_get C hP 0 rfl rfl in_X9 5 (by decide) q1889 rfl dX9_meansAll_49 ?_
        refine lv_iload_n hx hb dX9_meansAll_52 rfl (lv_at hl 1 rfl) ?_
        refine z_iald C hP 1 rfl (k) rfl (by omega) (by decide) dX9_meansAll_53 ?_
        refine z_bipush C dX9_meansAll_54 rfl ?_
        refine z_icmp_eq (tgt := 60) C ⟨by omega, by omega⟩ ⟨by decide, by decide⟩ dX9_meansAll_56 (by decide) (fun c_56 => ?_) (fun c_56 => ?_)
        · exact absurd c_56 (by omega)
        · have e9 : aG kf pf uf k g = g := by unfold aG; rw [if_neg (by intro q; have := of_decide_eq_true q; omega)]
          have ok8 := hg
          have e7 : aF kf uf k fr = (va_up fr 65 (uf (k + 1))) := by unfold aF; first | (rw [if_pos (by omega)]; done) | (rw [if_neg (by omega), if_neg (by intro q; have := of_decide_eq_true q; omega)]; done)
          exact z_vretG C hlk hr hQ ⟨g, (va_up fr 65 (uf (k + 1)))⟩ rfl ⟨⟨e9.symm, ok8⟩, e7.symm⟩ (hP.sub [0, 1, 2, 3, 4] rfl) (hD.sub [0, 1, 2, 3, 4] (by decide) rfl) hS (Nat.le_of_ble_eq_true rfl) (Nat.le_of_ble_eq_true rfl) dX9_meansAll_59
set_option maxHeartbeats 600000 in
set_option maxRecDepth 100000 in
theorem k_X9_meansOne (l : Launch) (D : va_G) (dA : Nat → ClassId) (a : Nat) (v0 v1 v2 v3 v4 v8 v9 v11 v13 v16 v17 v18 v19 v20 v21 v27 v28 v29 v30 v31 v32 v33 v34 v35 v36 v37 v38 v39 v40 v41 v42 v43 v44 : Value) (qk qp qu qf ft w le tk : Nat) (ra rl : Bool) (kf pf uf fr : Nat → Int) (g : Nat × Int) (k : Nat) (hft : ft = 0) (hg : wOk g) (bk : ∀ j, 0 ≤ kf j ∧ kf j ≤ 30) (bp : ∀ j, 0 ≤ pf j ∧ pf j ≤ 2000) (bu : ∀ j, 0 ≤ uf j ∧ uf j ≤ 9999) (hk : k < 401) (hk3 : oK (kf k) = true → k + 3 < 402) (hw9 : w ≤ 9999) (hl9 : le ≤ 9999) (hv : g.1 = 0 → w * le ≤ 16) : zG (S := (Nat × Int) × (Nat → Int)) l yX9_meansOne cX9_meansOne 7 (none) (zRmW 2 45 0 0) D dA [.ref (a), .int (zI ((k : Nat) : Int))] [(a, .inr (9, [v0, v1, v2, v3, v4, .ref (qk), .ref (qp), .ref (qu), v8, v9, .int (zI ((tk : Nat) : Int)), v11, .int (zI ((ft : Nat) : Int)), v13, .int (zI ((g.1 : Nat) : Int)), .int (zI (g.2)), v16, v17, v18, v19, v20, v21, .int (zI ((w : Nat) : Int)), .int (zI ((le : Nat) : Int)), .int (zB (ra)), .int (zB (rl)), .ref (qf), v27, v28, v29, v30, v31, v32, v33, v34, v35, v36, v37, v38, v39, v40, v41, v42, v43, v44])), (qk, .inl (dA 3, 403, .inl (fun jz => zI (kf jz)))), (qp, .inl (dA 3, 403, .inl (fun jz => zI (pf jz)))), (qu, .inl (dA 3, 403, .inl (fun jz => zI (uf jz)))), (qf, .inl (dA 3, 66, .inl (fun jz => zI (fr jz))))] (fun u : (Nat × Int) × (Nat → Int) => none) (fun u : (Nat × Int) × (Nat → Int) => (u.1 = oG kf pf uf w le ra rl k g ∧ wOk u.1) ∧ u.2 = oF kf uf w le ra rl k g fr) (fun u : (Nat × Int) × (Nat → Int) => [(a, .inr (9, [v0, v1, v2, v3, v4, .ref (qk), .ref (qp), .ref (qu), v8, v9, .int (zI ((tk : Nat) : Int)), v11, .int (zI ((ft : Nat) : Int)), v13, .int (zI ((u.1.1 : Nat) : Int)), .int (zI (u.1.2)), v16, v17, v18, v19, v20, v21, .int (zI ((w : Nat) : Int)), .int (zI ((le : Nat) : Int)), .int (zB (ra)), .int (zB (rl)), .ref (qf), v27, v28, v29, v30, v31, v32, v33, v34, v35, v36, v37, v38, v39, v40, v41, v42, v43, v44])), (qk, .inl (dA 3, 403, .inl (fun jz => zI (kf jz)))), (qp, .inl (dA 3, 403, .inl (fun jz => zI (pf jz)))), (qu, .inl (dA 3, 403, .inl (fun jz => zI (uf jz)))), (qf, .inl (dA 3, 66, .inl (fun jz => zI (u.2 jz))))]) := by
  refine zG.of (by decide +kernel) rfl ?_
  intro pp ee ss mm args below meth cd Q A C hr hlk hQ hA hin H locs hP hD hS ls hl
  have hx := C.1.1
  have hb := C.1.2.1
  have hl : lv_has ls 7 [(0, .ref (a)), (1, .int (zI ((k : Nat) : Int)))] := hl
  have ok9 := hg
  unfold wOk at ok9
  have bk9 := bk k
  have hwl9 : w * le ≤ 9999 * 9999 := Nat.mul_le_mul hw9 hl9
  have bu1 := bu (k + 1)
  obtain ⟨sN, esN⟩ : ∃ q : Nat, uf (k + 1) = (q : Int) := ⟨(uf (k + 1)).toNat, by omega⟩
  have bk8 := bk (k + 2)
  refine lv_aload_n hx hb dX9_meansOne_0 rfl (lv_at hl 0 rfl) ?_
  refine z_get C hP 0 rfl rfl in_X9 5 (by decide) q1889 rfl dX9_meansOne_1 ?_
  refine lv_iload_n hx hb dX9_meansOne_4 rfl (lv_at hl 1 rfl) ?_
  refine z_iald C hP 1 rfl (k) rfl (by omega) (by decide) dX9_meansOne_5 ?_
  refine z_nm (fun kd_1 e_kd_1 => ?_)
  rw [← e_kd_1] at bk9
  refine lv_istore_n (lv' := [(2, .int (zI (kd_1))), (0, .ref (a)), (1, .int (zI ((k : Nat) : Int)))]) hx hb dX9_meansOne_6 rfl hl (by decide) rfl (fun ls hl => ?_)
  have J26 : (kd_1 = 25 ∨ kd_1 = 26 ∨ kd_1 = 27) → ∀ (H : Heap) (locs : List Loc), va_P D vwCl [(a, .inr (9, [v0, v1, v2, v3, v4, .ref (qk), .ref (qp), .ref (qu), v8, v9, .int (zI ((tk : Nat) : Int)), v11, .int (zI ((ft : Nat) : Int)), v13, .int (zI ((g.1 : Nat) : Int)), .int (zI (g.2)), v16, v17, v18, v19, v20, v21, .int (zI ((w : Nat) : Int)), .int (zI ((le : Nat) : Int)), .int (zB (ra)), .int (zB (rl)), .ref (qf), v27, v28, v29, v30, v31, v32, v33, v34, v35, v36, v37, v38, v39, v40, v41, v42, v43, v44])), (qk, .inl (dA 3, 403, .inl (fun jz => zI (kf jz)))), (qp, .inl (dA 3, 403, .inl (fun jz => zI (pf jz)))), (qu, .inl (dA 3, 403, .inl (fun jz => zI (uf jz)))), (qf, .inl (dA 3, 66, .inl (fun jz => zI (fr jz))))] H → va_D A [(a, .inr (9, [v0, v1, v2, v3, v4, .ref (qk), .ref (qp), .ref (qu), v8, v9, .int (zI ((tk : Nat) : Int)), v11, .int (zI ((ft : Nat) : Int)), v13, .int (zI ((g.1 : Nat) : Int)), .int (zI (g.2)), v16, v17, v18, v19, v20, v21, .int (zI ((w : Nat) : Int)), .int (zI ((le : Nat) : Int)), .int (zB (ra)), .int (zB (rl)), .ref (qf), v27, v28, v29, v30, v31, v32, v33, v34, v35, v36, v37, v38, v39, v40, v41, v42, v43, v44])), (qk, .inl (dA 3, 403, .inl (fun jz => zI (kf jz)))), (qp, .inl (dA 3, 403, .inl (fun jz => zI (pf jz)))), (qu, .inl (dA 3, 403, .inl (fun jz => zI (uf jz)))), (qf, .inl (dA 3, 66, .inl (fun jz => zI (fr jz))))] → va_S A ss.heap H locs → ∀ ls : Array Slot, lv_has ls 7 [(2, .int (zI (kd_1))), (0, .ref (a)), (1, .int (zI ((k : Nat) : Int)))] → W pp l ee (zRmW 2 45 0 0) ss mm args below meth cd H locs 0 0 Q (F0 mm 26 ls []) := by
    intro  hkd9 H locs hP hD hS ls hl
    have hk4 := hk3 (decide_eq_true (by omega))
    refine lv_aload_n hx hb dX9_meansOne_26 rfl (lv_at hl 1 rfl) ?_
    refine z_get C hP 0 rfl rfl in_X9 7 (by decide) q1891 rfl dX9_meansOne_27 ?_
    refine lv_iload_n hx hb dX9_meansOne_30 rfl (lv_at hl 2 rfl) ?_
    refine z_iconst C dX9_meansOne_31 ?_
    refine z_iaddN C (k) (1) rfl rfl dX9_meansOne_32 ?_
    refine z_iald C hP 3 rfl ((k + 1)) rfl (by omega) (by decide) dX9_meansOne_33 ?_
    rw [esN]
    refine lv_istore_n (lv' := [(3, .int (zI ((sN : Nat) : Int))), (2, .int (zI (kd_1))), (0, .ref (a)), (1, .int (zI ((k : Nat) : Int)))]) hx hb dX9_meansOne_34 rfl hl (by decide) rfl (fun ls hl => ?_)
    have J60 : ∀ (i0 : Bool), (i0 = decide ((sN : Int) < ((w * le : Nat) : Int) ∧ g.1 = 0)) → ∀ (H : Heap) (locs : List Loc), va_P D vwCl [(a, .inr (9, [v0, v1, v2, v3, v4, .ref (qk), .ref (qp), .ref (qu), v8, v9, .int (zI ((tk : Nat) : Int)), v11, .int (zI ((ft : Nat) : Int)), v13, .int (zI ((g.1 : Nat) : Int)), .int (zI (g.2)), v16, v17, v18, v19, v20, v21, .int (zI ((w : Nat) : Int)), .int (zI ((le : Nat) : Int)), .int (zB (ra)), .int (zB (rl)), .ref (qf), v27, v28, v29, v30, v31, v32, v33, v34, v35, v36, v37, v38, v39, v40, v41, v42, v43, v44])), (qk, .inl (dA 3, 403, .inl (fun jz => zI (kf jz)))), (qp, .inl (dA 3, 403, .inl (fun jz => zI (pf jz)))), (qu, .inl (dA 3, 403, .inl (fun jz => zI (uf jz)))), (qf, .inl (dA 3, 66, .inl (fun jz => zI (fr jz))))] H → va_D A [(a, .inr (9, [v0, v1, v2, v3, v4, .ref (qk), .ref (qp), .ref (qu), v8, v9, .int (zI ((tk : Nat) : Int)), v11, .int (zI ((ft : Nat) : Int)), v13, .int (zI ((g.1 : Nat) : Int)), .int (zI (g.2)), v16, v17, v18, v19, v20, v21, .int (zI ((w : Nat) : Int)), .int (zI ((le : Nat) : Int)), .int (zB (ra)), .int (zB (rl)), .ref (qf), v27, v28, v29, v30, v31, v32, v33, v34, v35, v36, v37, v38, v39, v40, v41, v42, v43, v44])), (qk, .inl (dA 3, 403, .inl (fun jz => zI (kf jz)))), (qp, .inl (dA 3, 403, .inl (fun jz => zI (pf jz)))), (qu, .inl (dA 3, 403, .inl (fun jz => zI (uf jz)))), (qf, .inl (dA 3, 66, .inl (fun jz => zI (fr jz))))] → va_S A ss.heap H locs → ∀ ls : Array Slot, lv_has ls 7 [(3, .int (zI ((sN : Nat) : Int))), (2, .int (zI (kd_1))), (0, .ref (a)), (1, .int (zI ((k : Nat) : Int)))] → W pp l ee (zRmW 2 45 0 0) ss mm args below meth cd H locs 0 0 Q (F0 mm 60 ls [.int (zB (i0))]) := by
      intro i0 his H locs hP hD hS ls hl
      refine lv_istore (lv' := [(4, .int (zB (i0))), (3, .int (zI ((sN : Nat) : Int))), (2, .int (zI (kd_1))), (0, .ref (a)), (1, .int (zI ((k : Nat) : Int)))]) hx hb dX9_meansOne_60 hl (by decide) rfl (fun ls hl => ?_)
      have J80 : ∀ (al : Bool), (al = decide (kf (k + 2) = 22)) → ∀ (H : Heap) (locs : List Loc), va_P D vwCl [(a, .inr (9, [v0, v1, v2, v3, v4, .ref (qk), .ref (qp), .ref (qu), v8, v9, .int (zI ((tk : Nat) : Int)), v11, .int (zI ((ft : Nat) : Int)), v13, .int (zI ((g.1 : Nat) : Int)), .int (zI (g.2)), v16, v17, v18, v19, v20, v21, .int (zI ((w : Nat) : Int)), .int (zI ((le : Nat) : Int)), .int (zB (ra)), .int (zB (rl)), .ref (qf), v27, v28, v29, v30, v31, v32, v33, v34, v35, v36, v37, v38, v39, v40, v41, v42, v43, v44])), (qk, .inl (dA 3, 403, .inl (fun jz => zI (kf jz)))), (qp, .inl (dA 3, 403, .inl (fun jz => zI (pf jz)))), (qu, .inl (dA 3, 403, .inl (fun jz => zI (uf jz)))), (qf, .inl (dA 3, 66, .inl (fun jz => zI (fr jz))))] H → va_D A [(a, .inr (9, [v0, v1, v2, v3, v4, .ref (qk), .ref (qp), .ref (qu), v8, v9, .int (zI ((tk : Nat) : Int)), v11, .int (zI ((ft : Nat) : Int)), v13, .int (zI ((g.1 : Nat) : Int)), .int (zI (g.2)), v16, v17, v18, v19, v20, v21, .int (zI ((w : Nat) : Int)), .int (zI ((le : Nat) : Int)), .int (zB (ra)), .int (zB (rl)), .ref (qf), v27, v28, v29, v30, v31, v32, v33, v34, v35, v36, v37, v38, v39, v40, v41, v42, v43, v44])), (qk, .inl (dA 3, 403, .inl (fun jz => zI (kf jz)))), (qp, .inl (dA 3, 403, .inl (fun jz => zI (pf jz)))), (qu, .inl (dA 3, 403, .inl (fun jz => zI (uf jz)))), (qf, .inl (dA 3, 66, .inl (fun jz => zI (fr jz))))] → va_S A ss.heap H locs → ∀ ls : Array Slot, lv_has ls 7 [(4, .int (zB (i0))), (3, .int (zI ((sN : Nat) : Int))), (2, .int (zI (kd_1))), (0, .ref (a)), (1, .int (zI ((k : Nat) : Int)))] → W pp l ee (zRmW 2 45 0 0) ss mm args below meth cd H locs 0 0 Q (F0 mm 80 ls [.int (zB (al))]) := by
        intro al hal H locs hP hD hS ls hl
        refine lv_istore (lv' := [(5, .int (zB (al))), (4, .int (zB (i0))), (3, .int (zI ((sN : Nat) : Int))), (2, .int (zI (kd_1))), (0, .ref (a)), (1, .int (zI ((k : Nat) : Int)))]) hx hb dX9_meansOne_80 hl (by decide) rfl (fun ls hl => ?_)
        have J145 : ∀ (i2 : Bool) (g2 : Nat × Int), (g2 = (if oBad kf uf w le ra rl k = true then wG pf 4 (k + 1) g else g)) → (wOk g2) → (i2 = oI kf uf w le ra rl k g) → ∀ (H : Heap) (locs : List Loc), va_P D vwCl [(a, .inr (9, [v0, v1, v2, v3, v4, .ref (qk), .ref (qp), .ref (qu), v8, v9, .int (zI ((tk : Nat) : Int)), v11, .int (zI ((ft : Nat) : Int)), v13, .int (zI ((g2.1 : Nat) : Int)), .int (zI (g2.2)), v16, v17, v18, v19, v20, v21, .int (zI ((w : Nat) : Int)), .int (zI ((le : Nat) : Int)), .int (zB (ra)), .int (zB (rl)), .ref (qf), v27, v28, v29, v30, v31, v32, v33, v34, v35, v36, v37, v38, v39, v40, v41, v42, v43, v44])), (qk, .inl (dA 3, 403, .inl (fun jz => zI (kf jz)))), (qp, .inl (dA 3, 403, .inl (fun jz => zI (pf jz)))), (qu, .inl (dA 3, 403, .inl (fun jz => zI (uf jz)))), (qf, .inl (dA 3, 66, .inl (fun jz => zI (fr jz))))] H → va_D A [(a, .inr (9, [v0, v1, v2, v3, v4, .ref (qk), .ref (qp), .ref (qu), v8, v9, .int (zI ((tk : Nat) : Int)), v11, .int (zI ((ft : Nat) : Int)), v13, .int (zI ((g2.1 : Nat) : Int)), .int (zI (g2.2)), v16, v17, v18, v19, v20, v21, .int (zI ((w : Nat) : Int)), .int (zI ((le : Nat) : Int)), .int (zB (ra)), .int (zB (rl)), .ref (qf), v27, v28, v29, v30, v31, v32, v33, v34, v35, v36, v37, v38, v39, v40, v41, v42, v43, v44])), (qk, .inl (dA 3, 403, .inl (fun jz => zI (kf jz)))), (qp, .inl (dA 3, 403, .inl (fun jz => zI (pf jz)))), (qu, .inl (dA 3, 403, .inl (fun jz => zI (uf jz)))), (qf, .inl (dA 3, 66, .inl (fun jz => zI (fr jz))))] → va_S A ss.heap H locs → ∀ ls : Array Slot, lv_has ls 7 [(5, .int (zB (al))), (4, .int (zB (i2))), (3, .int (zI ((sN : Nat) : Int))), (2, .int (zI (kd_1))), (0, .ref (a)), (1, .int (zI ((k : Nat) : Int)))] → W pp l ee (zRmW 2 45 0 0) ss mm args below meth cd H locs 0 0 Q (F0 mm 145 ls []) := by
          intro i2 g2 hg2 hgk hi2 H locs hP hD hS ls hl
          refine lv_iload_n hx hb dX9_meansOne_145 rfl (lv_at hl 3 rfl) ?_
          refine z_bipush C dX9_meansOne_146 rfl ?_
          refine z_icmp_ne (tgt := 184) C ⟨by omega, by omega⟩ ⟨by decide, by decide⟩ dX9_meansOne_148 (by decide) (fun c_148 => ?_) (fun c_148 => ?_)
          · refine lv_aload_n hx hb dX9_meansOne_184 rfl (lv_at hl 4 rfl) ?_
            refine lv_iload_n hx hb dX9_meansOne_185 rfl (lv_at hl 3 rfl) ?_
            refine z_bipush C dX9_meansOne_186 rfl ?_
            refine z_icmp_ne (tgt := 197) C ⟨by omega, by omega⟩ ⟨by decide, by decide⟩ dX9_meansOne_188 (by decide) (fun c_188 => ?_) (fun c_188 => ?_)
            · have jt9 : oJt kf k = k + 2 := if_neg (by omega)
              refine lv_iload_n hx hb dX9_meansOne_197 rfl (lv_at hl 5 rfl) ?_
              refine z_iconst C dX9_meansOne_198 ?_
              refine z_iaddN C (k) (2) rfl rfl dX9_meansOne_199 ?_
              refine z_gV (n := 1) (As := [.int (zI (((k + 2) : Nat) : Int))]) (rest := []) (wc := [(a, .inr (9, [v0, v1, v2, v3, v4, .ref (qk), .ref (qp), .ref (qu), v8, v9, .int (zI ((tk : Nat) : Int)), v11, .int (zI ((ft : Nat) : Int)), v13, .int (zI ((g2.1 : Nat) : Int)), .int (zI (g2.2)), v16, v17, v18, v19, v20, v21, .int (zI ((w : Nat) : Int)), .int (zI ((le : Nat) : Int)), .int (zB (ra)), .int (zB (rl)), .ref (qf), v27, v28, v29, v30, v31, v32, v33, v34, v35, v36, v37, v38, v39, v40, v41, v42, v43, v44])), (qk, .inl (dA 3, 403, .inl (fun jz => zI (kf jz)))), (qp, .inl (dA 3, 403, .inl (fun jz => zI (pf jz)))), (qu, .inl (dA 3, 403, .inl (fun jz => zI (uf jz))))]) (wr := [(qf, .inl (dA 3, 66, .inl (fun jz => zI (fr jz))))]) C hP hD hS hA [0, 1, 2, 3] [4] rfl rfl (by decide) (by decide) (by decide) (k_X9_jAt l D dA (a) (v0) (v1) (v2) (v3) (v4) (v8) (v9) (v11) (v13) (v16) (v17) (v18) (v19) (v20) (v21) (v27) (v28) (v29) (v30) (v31) (v32) (v33) (v34) (v35) (v36) (v37) (v38) (v39) (v40) (v41) (v42) (v43) (v44) (qk) (qp) (qu) (qf) (ft) (w) (le) (tk) (ra) (rl) (kf) (pf) (uf) (g2) ((k + 2)) (by first | with_reducible assumption | omega | with_reducible rfl) hgk (by first | with_reducible assumption | omega | with_reducible rfl) (by first | with_reducible assumption | omega | with_reducible rfl) (by first | with_reducible assumption | omega | with_reducible rfl) (by first | with_reducible assumption | omega | with_reducible rfl)) (lw_V q2101 q2103 qs78 q124 q2104) (by decide +kernel) rfl ⟨Nat.le_of_ble_eq_true rfl, Nat.le_of_ble_eq_true rfl⟩ hl.1 0 rfl rfl rfl (Nat.le_of_ble_eq_true rfl) dX9_meansOne_200 (by decide) (by decide) (fun u_200 H locs hp_200 hP hD hS _ => ?_)
              obtain ⟨g1_2, rfl⟩ : ∃ z, z = u_200 := ⟨_, rfl⟩
              have hP := hP.sub (ws' := [(a, .inr (9, [v0, v1, v2, v3, v4, .ref (qk), .ref (qp), .ref (qu), v8, v9, .int (zI ((tk : Nat) : Int)), v11, .int (zI ((ft : Nat) : Int)), v13, .int (zI ((g1_2.1 : Nat) : Int)), .int (zI (g1_2.2)), v16, v17, v18, v19, v20, v21, .int (zI ((w : Nat) : Int)), .int (zI ((le : Nat) : Int)), .int (zB (ra)), .int (zB (rl)), .ref (qf), v27, v28, v29, v30, v31, v32, v33, v34, v35, v36, v37, v38, v39, v40, v41, v42, v43, v44])), (qk, .inl (dA 3, 403, .inl (fun jz => zI (kf jz)))), (qp, .inl (dA 3, 403, .inl (fun jz => zI (pf jz)))), (qu, .inl (dA 3, 403, .inl (fun jz => zI (uf jz)))), (qf, .inl (dA 3, 66, .inl (fun jz => zI (fr jz))))]) [1, 2, 3, 4, 0] rfl
              have hD := hD.sub (ws' := [(a, .inr (9, [v0, v1, v2, v3, v4, .ref (qk), .ref (qp), .ref (qu), v8, v9, .int (zI ((tk : Nat) : Int)), v11, .int (zI ((ft : Nat) : Int)), v13, .int (zI ((g1_2.1 : Nat) : Int)), .int (zI (g1_2.2)), v16, v17, v18, v19, v20, v21, .int (zI ((w : Nat) : Int)), .int (zI ((le : Nat) : Int)), .int (zB (ra)), .int (zB (rl)), .ref (qf), v27, v28, v29, v30, v31, v32, v33, v34, v35, v36, v37, v38, v39, v40, v41, v42, v43, v44])), (qk, .inl (dA 3, 403, .inl (fun jz => zI (kf jz)))), (qp, .inl (dA 3, 403, .inl (fun jz => zI (pf jz)))), (qu, .inl (dA 3, 403, .inl (fun jz => zI (uf jz)))), (qf, .inl (dA 3, 66, .inl (fun jz => zI (fr jz))))]) [1, 2, 3, 4, 0] (by decide) rfl
              have hp_200 : g1_2 = jG kf pf uf ((k + 2)) g2 ∧ wOk g1_2 := hp_200
              refine W.widen (k := 0) (n := 0) (Nat.le_of_ble_eq_true rfl) (Nat.le_of_ble_eq_true rfl) ?_
              refine z_nm (fun jv_3 e_jv_3 => ?_)
              have jb9 := jV_b (kf := kf) bu (oJt kf k)
              rw [jt9] at jb9
              refine lv_istore (lv' := [(6, .int (zI (jv_3))), (5, .int (zB (al))), (4, .int (zB (i2))), (3, .int (zI ((sN : Nat) : Int))), (2, .int (zI (kd_1))), (0, .ref (a)), (1, .int (zI ((k : Nat) : Int)))]) hx hb dX9_meansOne_203 hl (by decide) rfl (fun ls hl => ?_)
              refine lv_iload hx hb dX9_meansOne_205 (lv_at hl 2 rfl) ?_
              refine z_if_eqB (tgt := 241) C dX9_meansOne_207 (by decide) (fun c_207 => ?_) (fun c_207 => ?_)
              · have ii : oI kf uf w le ra rl k g = false := by rw [← hi2]; exact c_207
                have ok0 : oK (kf k) = true := decide_eq_true (by omega)
                have e9 : oG kf pf uf w le ra rl k g = g1_2 := by unfold oG; rw [if_pos ok0, if_neg (by omega), ← hg2, jt9]; exact hp_200.1.symm
                have ok8 := hp_200.2
                have e7 : oF kf uf w le ra rl k g fr = fr := by unfold oF; rw [if_neg (fun q => by have := oI_iff.mpr q.2; rw [ii] at this; exact absurd this (by decide))]
                exact z_vretG C hlk hr hQ ⟨g1_2, fr⟩ rfl ⟨⟨e9.symm, ok8⟩, e7.symm⟩ (hP.sub [0, 1, 2, 3, 4] rfl) (hD.sub [0, 1, 2, 3, 4] (by decide) rfl) hS (Nat.le_of_ble_eq_true rfl) (Nat.le_of_ble_eq_true rfl) dX9_meansOne_241
              · have s16 : sN < 16 := (by have h5 := hi2; rw [c_207] at h5; have h6 := oI_iff.mp h5.symm; have h7 := hv h6.2; rcases Nat.lt_or_ge sN (w * le) with q | q; omega; have h8 := oBad_ge (kf := kf) (uf := uf) (w := w) (le := le) (ra := ra) (rl := rl) (k := k) (by omega); rw [h8] at h6; exact absurd h6.1 (by decide))
                refine lv_aload_n hx hb dX9_meansOne_210 rfl (lv_at hl 5 rfl) ?_
                refine z_get C hP 0 rfl rfl in_X9 26 (by decide) q1910 rfl dX9_meansOne_211 ?_
                refine lv_iload_n hx hb dX9_meansOne_214 rfl (lv_at hl 4 rfl) ?_
                refine z_bipush C dX9_meansOne_215 rfl ?_
                refine z_icmp_ne (tgt := 225) C ⟨by omega, by omega⟩ ⟨by decide, by decide⟩ dX9_meansOne_217 (by decide) (fun c_217 => ?_) (fun c_217 => ?_)
                · refine lv_iload hx hb dX9_meansOne_225 (lv_at hl 1 rfl) ?_
                  refine z_if_eqB (tgt := 235) C dX9_meansOne_227 (by decide) (fun c_227 => ?_) (fun c_227 => ?_)
                  · have od9 : oD kf k = 0 := by unfold oD; rw [if_neg (by omega), if_neg (by rw [hal] at c_227; exact of_decide_eq_false c_227)]
                    refine z_iconst C dX9_meansOne_235 ?_
                    refine lv_iload_n hx hb dX9_meansOne_236 rfl (lv_at hl 3 rfl) ?_
                    refine z_iadd0 C dX9_meansOne_237 ?_
                    refine lv_iload hx hb dX9_meansOne_238 (lv_at hl 0 rfl) ?_
                    refine z_iast C hP hD hS 4 rfl (sN) rfl (by omega) (by decide) (v := (jv_3)) (ws' := [(a, .inr (9, [v0, v1, v2, v3, v4, .ref (qk), .ref (qp), .ref (qu), v8, v9, .int (zI ((tk : Nat) : Int)), v11, .int (zI ((ft : Nat) : Int)), v13, .int (zI ((g1_2.1 : Nat) : Int)), .int (zI (g1_2.2)), v16, v17, v18, v19, v20, v21, .int (zI ((w : Nat) : Int)), .int (zI ((le : Nat) : Int)), .int (zB (ra)), .int (zB (rl)), .ref (qf), v27, v28, v29, v30, v31, v32, v33, v34, v35, v36, v37, v38, v39, v40, v41, v42, v43, v44])), (qk, .inl (dA 3, 403, .inl (fun jz => zI (kf jz)))), (qp, .inl (dA 3, 403, .inl (fun jz => zI (pf jz)))), (qu, .inl (dA 3, 403, .inl (fun jz => zI (uf jz)))), (qf, .inl (dA 3, 66, .inl (fun jz => zI ((va_up fr sN (jv_3)) jz))))]) rfl dX9_meansOne_240 (fun H locs hP hD hS => ?_)
                    have ii : oI kf uf w le ra rl k g = true := by rw [← hi2]; exact c_207
                    have ok0 : oK (kf k) = true := decide_eq_true (by omega)
                    have e9 : oG kf pf uf w le ra rl k g = g1_2 := by unfold oG; rw [if_pos ok0, if_neg (by omega), ← hg2, jt9]; exact hp_200.1.symm
                    have ok8 := hp_200.2
                    have e7 : oF kf uf w le ra rl k g fr = (va_up fr sN (jv_3)) := by unfold oF; rw [if_pos ⟨ok0, oI_iff.mp ii⟩, if_neg (by omega), od9, esN, Int.toNat_natCast, jt9, e_jv_3]; try rw [Nat.zero_add]
                    exact z_vretG C hlk hr hQ ⟨g1_2, (va_up fr sN (jv_3))⟩ rfl ⟨⟨e9.symm, ok8⟩, e7.symm⟩ (hP.sub [0, 1, 2, 3, 4] rfl) (hD.sub [0, 1, 2, 3, 4] (by decide) rfl) hS (Nat.le_of_ble_eq_true rfl) (Nat.le_of_ble_eq_true rfl) dX9_meansOne_241
                  · have od9 : oD kf k = 16 := by unfold oD; rw [if_neg (by omega), if_pos (by rw [hal] at c_227; exact of_decide_eq_true c_227)]
                    refine z_bipush C dX9_meansOne_230 rfl ?_
                    refine lv_goto (tgt := 236) hx hb dX9_meansOne_232 (by decide) ?_
                    refine lv_iload_n hx hb dX9_meansOne_236 rfl (lv_at hl 3 rfl) ?_
                    refine z_iaddN C (16) (sN) rfl rfl dX9_meansOne_237 ?_
                    refine lv_iload hx hb dX9_meansOne_238 (lv_at hl 0 rfl) ?_
                    refine z_iast C hP hD hS 4 rfl ((16 + sN)) rfl (by omega) (by decide) (v := (jv_3)) (ws' := [(a, .inr (9, [v0, v1, v2, v3, v4, .ref (qk), .ref (qp), .ref (qu), v8, v9, .int (zI ((tk : Nat) : Int)), v11, .int (zI ((ft : Nat) : Int)), v13, .int (zI ((g1_2.1 : Nat) : Int)), .int (zI (g1_2.2)), v16, v17, v18, v19, v20, v21, .int (zI ((w : Nat) : Int)), .int (zI ((le : Nat) : Int)), .int (zB (ra)), .int (zB (rl)), .ref (qf), v27, v28, v29, v30, v31, v32, v33, v34, v35, v36, v37, v38, v39, v40, v41, v42, v43, v44])), (qk, .inl (dA 3, 403, .inl (fun jz => zI (kf jz)))), (qp, .inl (dA 3, 403, .inl (fun jz => zI (pf jz)))), (qu, .inl (dA 3, 403, .inl (fun jz => zI (uf jz)))), (qf, .inl (dA 3, 66, .inl (fun jz => zI ((va_up fr (16 + sN) (jv_3)) jz))))]) rfl dX9_meansOne_240 (fun H locs hP hD hS => ?_)
                    have ii : oI kf uf w le ra rl k g = true := by rw [← hi2]; exact c_207
                    have ok0 : oK (kf k) = true := decide_eq_true (by omega)
                    have e9 : oG kf pf uf w le ra rl k g = g1_2 := by unfold oG; rw [if_pos ok0, if_neg (by omega), ← hg2, jt9]; exact hp_200.1.symm
                    have ok8 := hp_200.2
                    have e7 : oF kf uf w le ra rl k g fr = (va_up fr (16 + sN) (jv_3)) := by unfold oF; rw [if_pos ⟨ok0, oI_iff.mp ii⟩, if_neg (by omega), od9, esN, Int.toNat_natCast, jt9, e_jv_3]; try rw [Nat.zero_add]
                    exact z_vretG C hlk hr hQ ⟨g1_2, (va_up fr (16 + sN) (jv_3))⟩ rfl ⟨⟨e9.symm, ok8⟩, e7.symm⟩ (hP.sub [0, 1, 2, 3, 4] rfl) (hD.sub [0, 1, 2, 3, 4] (by decide) rfl) hS (Nat.le_of_ble_eq_true rfl) (Nat.le_of_ble_eq_true rfl) dX9_meansOne_241
                · have od9 : oD kf k = 32 := if_pos (by omega)
                  refine z_bipush C dX9_meansOne_220 rfl ?_
                  refine lv_goto (tgt := 236) hx hb dX9_meansOne_222 (by decide) ?_
                  refine lv_iload_n hx hb dX9_meansOne_236 rfl (lv_at hl 3 rfl) ?_
                  refine z_iaddN C (32) (sN) rfl rfl dX9_meansOne_237 ?_
                  refine lv_iload hx hb dX9_meansOne_238 (lv_at hl 0 rfl) ?_
                  refine z_iast C hP hD hS 4 rfl ((32 + sN)) rfl (by omega) (by decide) (v := (jv_3)) (ws' := [(a, .inr (9, [v0, v1, v2, v3, v4, .ref (qk), .ref (qp), .ref (qu), v8, v9, .int (zI ((tk : Nat) : Int)), v11, .int (zI ((ft : Nat) : Int)), v13, .int (zI ((g1_2.1 : Nat) : Int)), .int (zI (g1_2.2)), v16, v17, v18, v19, v20, v21, .int (zI ((w : Nat) : Int)), .int (zI ((le : Nat) : Int)), .int (zB (ra)), .int (zB (rl)), .ref (qf), v27, v28, v29, v30, v31, v32, v33, v34, v35, v36, v37, v38, v39, v40, v41, v42, v43, v44])), (qk, .inl (dA 3, 403, .inl (fun jz => zI (kf jz)))), (qp, .inl (dA 3, 403, .inl (fun jz => zI (pf jz)))), (qu, .inl (dA 3, 403, .inl (fun jz => zI (uf jz)))), (qf, .inl (dA 3, 66, .inl (fun jz => zI ((va_up fr (32 + sN) (jv_3)) jz))))]) rfl dX9_meansOne_240 (fun H locs hP hD hS => ?_)
                  have ii : oI kf uf w le ra rl k g = true := by rw [← hi2]; exact c_207
                  have ok0 : oK (kf k) = true := decide_eq_true (by omega)
                  have e9 : oG kf pf uf w le ra rl k g = g1_2 := by unfold oG; rw [if_pos ok0, if_neg (by omega), ← hg2, jt9]; exact hp_200.1.symm
                  have ok8 := hp_200.2
                  have e7 : oF kf uf w le ra rl k g fr = (va_up fr (32 + sN) (jv_3)) := by unfold oF; rw [if_pos ⟨ok0, oI_iff.mp ii⟩, if_neg (by omega), od9, esN, Int.toNat_natCast, jt9, e_jv_3]; try rw [Nat.zero_add]
                  exact z_vretG C hlk hr hQ ⟨g1_2, (va_up fr (32 + sN) (jv_3))⟩ rfl ⟨⟨e9.symm, ok8⟩, e7.symm⟩ (hP.sub [0, 1, 2, 3, 4] rfl) (hD.sub [0, 1, 2, 3, 4] (by decide) rfl) hS (Nat.le_of_ble_eq_true rfl) (Nat.le_of_ble_eq_true rfl) dX9_meansOne_241
            · have jt9 : oJt kf k = k + 3 := if_pos (by omega)
              refine lv_iload_n hx hb dX9_meansOne_191 rfl (lv_at hl 5 rfl) ?_
              refine z_iconst C dX9_meansOne_192 ?_
              refine z_iaddN C (k) (3) rfl rfl dX9_meansOne_193 ?_
              refine lv_goto (tgt := 200) hx hb dX9_meansOne_194 (by decide) ?_
              refine z_gV (n := 1) (As := [.int (zI (((k + 3) : Nat) : Int))]) (rest := []) (wc := [(a, .inr (9, [v0, v1, v2, v3, v4, .ref (qk), .ref (qp), .ref (qu), v8, v9, .int (zI ((tk : Nat) : Int)), v11, .int (zI ((ft : Nat) : Int)), v13, .int (zI ((g2.1 : Nat) : Int)), .int (zI (g2.2)), v16, v17, v18, v19, v20, v21, .int (zI ((w : Nat) : Int)), .int (zI ((le : Nat) : Int)), .int (zB (ra)), .int (zB (rl)), .ref (qf), v27, v28, v29, v30, v31, v32, v33, v34, v35, v36, v37, v38, v39, v40, v41, v42, v43, v44])), (qk, .inl (dA 3, 403, .inl (fun jz => zI (kf jz)))), (qp, .inl (dA 3, 403, .inl (fun jz => zI (pf jz)))), (qu, .inl (dA 3, 403, .inl (fun jz => zI (uf jz))))]) (wr := [(qf, .inl (dA 3, 66, .inl (fun jz => zI (fr jz))))]) C hP hD hS hA [0, 1, 2, 3] [4] rfl rfl (by decide) (by decide) (by decide) (k_X9_jAt l D dA (a) (v0) (v1) (v2) (v3) (v4) (v8) (v9) (v11) (v13) (v16) (v17) (v18) (v19) (v20) (v21) (v27) (v28) (v29) (v30) (v31) (v32) (v33) (v34) (v35) (v36) (v37) (v38) (v39) (v40) (v41) (v42) (v43) (v44) (qk) (qp) (qu) (qf) (ft) (w) (le) (tk) (ra) (rl) (kf) (pf) (uf) (g2) ((k + 3)) (by first | with_reducible assumption | omega | with_reducible rfl) hgk (by first | with_reducible assumption | omega | with_reducible rfl) (by first | with_reducible assumption | omega | with_reducible rfl) (by first | with_reducible assumption | omega | with_reducible rfl) (by first | with_reducible assumption | omega | with_reducible rfl)) (lw_V q2101 q2103 qs78 q124 q2104) (by decide +kernel) rfl ⟨Nat.le_of_ble_eq_true rfl, Nat.le_of_ble_eq_true rfl⟩ hl.1 0 rfl rfl rfl (Nat.le_of_ble_eq_true rfl) dX9_meansOne_200 (by decide) (by decide) (fun u_200 H locs hp_200 hP hD hS _ => ?_)
              obtain ⟨g1_4, rfl⟩ : ∃ z, z = u_200 := ⟨_, rfl⟩
              have hP := hP.sub (ws' := [(a, .inr (9, [v0, v1, v2, v3, v4, .ref (qk), .ref (qp), .ref (qu), v8, v9, .int (zI ((tk : Nat) : Int)), v11, .int (zI ((ft : Nat) : Int)), v13, .int (zI ((g1_4.1 : Nat) : Int)), .int (zI (g1_4.2)), v16, v17, v18, v19, v20, v21, .int (zI ((w : Nat) : Int)), .int (zI ((le : Nat) : Int)), .int (zB (ra)), .int (zB (rl)), .ref (qf), v27, v28, v29, v30, v31, v32, v33, v34, v35, v36, v37, v38, v39, v40, v41, v42, v43, v44])), (qk, .inl (dA 3, 403, .inl (fun jz => zI (kf jz)))), (qp, .inl (dA 3, 403, .inl (fun jz => zI (pf jz)))), (qu, .inl (dA 3, 403, .inl (fun jz => zI (uf jz)))), (qf, .inl (dA 3, 66, .inl (fun jz => zI (fr jz))))]) [1, 2, 3, 4, 0] rfl
              have hD := hD.sub (ws' := [(a, .inr (9, [v0, v1, v2, v3, v4, .ref (qk), .ref (qp), .ref (qu), v8, v9, .int (zI ((tk : Nat) : Int)), v11, .int (zI ((ft : Nat) : Int)), v13, .int (zI ((g1_4.1 : Nat) : Int)), .int (zI (g1_4.2)), v16, v17, v18, v19, v20, v21, .int (zI ((w : Nat) : Int)), .int (zI ((le : Nat) : Int)), .int (zB (ra)), .int (zB (rl)), .ref (qf), v27, v28, v29, v30, v31, v32, v33, v34, v35, v36, v37, v38, v39, v40, v41, v42, v43, v44])), (qk, .inl (dA 3, 403, .inl (fun jz => zI (kf jz)))), (qp, .inl (dA 3, 403, .inl (fun jz => zI (pf jz)))), (qu, .inl (dA 3, 403, .inl (fun jz => zI (uf jz)))), (qf, .inl (dA 3, 66, .inl (fun jz => zI (fr jz))))]) [1, 2, 3, 4, 0] (by decide) rfl
              have hp_200 : g1_4 = jG kf pf uf ((k + 3)) g2 ∧ wOk g1_4 := hp_200
              refine W.widen (k := 0) (n := 0) (Nat.le_of_ble_eq_true rfl) (Nat.le_of_ble_eq_true rfl) ?_
              refine z_nm (fun jv_5 e_jv_5 => ?_)
              have jb9 := jV_b (kf := kf) bu (oJt kf k)
              rw [jt9] at jb9
              refine lv_istore (lv' := [(6, .int (zI (jv_5))), (5, .int (zB (al))), (4, .int (zB (i2))), (3, .int (zI ((sN : Nat) : Int))), (2, .int (zI (kd_1))), (0, .ref (a)), (1, .int (zI ((k : Nat) : Int)))]) hx hb dX9_meansOne_203 hl (by decide) rfl (fun ls hl => ?_)
              refine lv_iload hx hb dX9_meansOne_205 (lv_at hl 2 rfl) ?_
              refine z_if_eqB (tgt := 241) C dX9_meansOne_207 (by decide) (fun c_207 => ?_) (fun c_207 => ?_)
              · have ii : oI kf uf w le ra rl k g = false := by rw [← hi2]; exact c_207
                have ok0 : oK (kf k) = true := decide_eq_true (by omega)
                have e9 : oG kf pf uf w le ra rl k g = g1_4 := by unfold oG; rw [if_pos ok0, if_neg (by omega), ← hg2, jt9]; exact hp_200.1.symm
                have ok8 := hp_200.2
                have e7 : oF kf uf w le ra rl k g fr = fr := by unfold oF; rw [if_neg (fun q => by have := oI_iff.mpr q.2; rw [ii] at this; exact absurd this (by decide))]
                exact z_vretG C hlk hr hQ ⟨g1_4, fr⟩ rfl ⟨⟨e9.symm, ok8⟩, e7.symm⟩ (hP.sub [0, 1, 2, 3, 4] rfl) (hD.sub [0, 1, 2, 3, 4] (by decide) rfl) hS (Nat.le_of_ble_eq_true rfl) (Nat.le_of_ble_eq_true rfl) dX9_meansOne_241
              · have s16 : sN < 16 := (by have h5 := hi2; rw [c_207] at h5; have h6 := oI_iff.mp h5.symm; have h7 := hv h6.2; rcases Nat.lt_or_ge sN (w * le) with q | q; omega; have h8 := oBad_ge (kf := kf) (uf := uf) (w := w) (le := le) (ra := ra) (rl := rl) (k := k) (by omega); rw [h8] at h6; exact absurd h6.1 (by decide))
                refine lv_aload_n hx hb dX9_meansOne_210 rfl (lv_at hl 5 rfl) ?_
                refine z_get C hP 0 rfl rfl in_X9 26 (by decide) q1910 rfl dX9_meansOne_211 ?_
                refine lv_iload_n hx hb dX9_meansOne_214 rfl (lv_at hl 4 rfl) ?_
                refine z_bipush C dX9_meansOne_215 rfl ?_
                refine z_icmp_ne (tgt := 225) C ⟨by omega, by omega⟩ ⟨by decide, by decide⟩ dX9_meansOne_217 (by decide) (fun c_217 => ?_) (fun c_217 => ?_)
                · refine lv_iload hx hb dX9_meansOne_225 (lv_at hl 1 rfl) ?_
                  refine z_if_eqB (tgt := 235) C dX9_meansOne_227 (by decide) (fun c_227 => ?_) (fun c_227 => ?_)
                  · have od9 : oD kf k = 0 := by unfold oD; rw [if_neg (by omega), if_neg (by rw [hal] at c_227; exact of_decide_eq_false c_227)]
                    refine z_iconst C dX9_meansOne_235 ?_
                    refine lv_iload_n hx hb dX9_meansOne_236 rfl (lv_at hl 3 rfl) ?_
                    refine z_iadd0 C dX9_meansOne_237 ?_
                    refine lv_iload hx hb dX9_meansOne_238 (lv_at hl 0 rfl) ?_
                    refine z_iast C hP hD hS 4 rfl (sN) rfl (by omega) (by decide) (v := (jv_5)) (ws' := [(a, .inr (9, [v0, v1, v2, v3, v4, .ref (qk), .ref (qp), .ref (qu), v8, v9, .int (zI ((tk : Nat) : Int)), v11, .int (zI ((ft : Nat) : Int)), v13, .int (zI ((g1_4.1 : Nat) : Int)), .int (zI (g1_4.2)), v16, v17, v18, v19, v20, v21, .int (zI ((w : Nat) : Int)), .int (zI ((le : Nat) : Int)), .int (zB (ra)), .int (zB (rl)), .ref (qf), v27, v28, v29, v30, v31, v32, v33, v34, v35, v36, v37, v38, v39, v40, v41, v42, v43, v44])), (qk, .inl (dA 3, 403, .inl (fun jz => zI (kf jz)))), (qp, .inl (dA 3, 403, .inl (fun jz => zI (pf jz)))), (qu, .inl (dA 3, 403, .inl (fun jz => zI (uf jz)))), (qf, .inl (dA 3, 66, .inl (fun jz => zI ((va_up fr sN (jv_5)) jz))))]) rfl dX9_meansOne_240 (fun H locs hP hD hS => ?_)
                    have ii : oI kf uf w le ra rl k g = true := by rw [← hi2]; exact c_207
                    have ok0 : oK (kf k) = true := decide_eq_true (by omega)
                    have e9 : oG kf pf uf w le ra rl k g = g1_4 := by unfold oG; rw [if_pos ok0, if_neg (by omega), ← hg2, jt9]; exact hp_200.1.symm
                    have ok8 := hp_200.2
                    have e7 : oF kf uf w le ra rl k g fr = (va_up fr sN (jv_5)) := by unfold oF; rw [if_pos ⟨ok0, oI_iff.mp ii⟩, if_neg (by omega), od9, esN, Int.toNat_natCast, jt9, e_jv_5]; try rw [Nat.zero_add]
                    exact z_vretG C hlk hr hQ ⟨g1_4, (va_up fr sN (jv_5))⟩ rfl ⟨⟨e9.symm, ok8⟩, e7.symm⟩ (hP.sub [0, 1, 2, 3, 4] rfl) (hD.sub [0, 1, 2, 3, 4] (by decide) rfl) hS (Nat.le_of_ble_eq_true rfl) (Nat.le_of_ble_eq_true rfl) dX9_meansOne_241
                  · have od9 : oD kf k = 16 := by unfold oD; rw [if_neg (by omega), if_pos (by rw [hal] at c_227; exact of_decide_eq_true c_227)]
                    refine z_bipush C dX9_meansOne_230 rfl ?_
                    refine lv_goto (tgt := 236) hx hb dX9_meansOne_232 (by decide) ?_
                    refine lv_iload_n hx hb dX9_meansOne_236 rfl (lv_at hl 3 rfl) ?_
                    refine z_iaddN C (16) (sN) rfl rfl dX9_meansOne_237 ?_
                    refine lv_iload hx hb dX9_meansOne_238 (lv_at hl 0 rfl) ?_
                    refine z_iast C hP hD hS 4 rfl ((16 + sN)) rfl (by omega) (by decide) (v := (jv_5)) (ws' := [(a, .inr (9, [v0, v1, v2, v3, v4, .ref (qk), .ref (qp), .ref (qu), v8, v9, .int (zI ((tk : Nat) : Int)), v11, .int (zI ((ft : Nat) : Int)), v13, .int (zI ((g1_4.1 : Nat) : Int)), .int (zI (g1_4.2)), v16, v17, v18, v19, v20, v21, .int (zI ((w : Nat) : Int)), .int (zI ((le : Nat) : Int)), .int (zB (ra)), .int (zB (rl)), .ref (qf), v27, v28, v29, v30, v31, v32, v33, v34, v35, v36, v37, v38, v39, v40, v41, v42, v43, v44])), (qk, .inl (dA 3, 403, .inl (fun jz => zI (kf jz)))), (qp, .inl (dA 3, 403, .inl (fun jz => zI (pf jz)))), (qu, .inl (dA 3, 403, .inl (fun jz => zI (uf jz)))), (qf, .inl (dA 3, 66, .inl (fun jz => zI ((va_up fr (16 + sN) (jv_5)) jz))))]) rfl dX9_meansOne_240 (fun H locs hP hD hS => ?_)
                    have ii : oI kf uf w le ra rl k g = true := by rw [← hi2]; exact c_207
                    have ok0 : oK (kf k) = true := decide_eq_true (by omega)
                    have e9 : oG kf pf uf w le ra rl k g = g1_4 := by unfold oG; rw [if_pos ok0, if_neg (by omega), ← hg2, jt9]; exact hp_200.1.symm
                    have ok8 := hp_200.2
                    have e7 : oF kf uf w le ra rl k g fr = (va_up fr (16 + sN) (jv_5)) := by unfold oF; rw [if_pos ⟨ok0, oI_iff.mp ii⟩, if_neg (by omega), od9, esN, Int.toNat_natCast, jt9, e_jv_5]; try rw [Nat.zero_add]
                    exact z_vretG C hlk hr hQ ⟨g1_4, (va_up fr (16 + sN) (jv_5))⟩ rfl ⟨⟨e9.symm, ok8⟩, e7.symm⟩ (hP.sub [0, 1, 2, 3, 4] rfl) (hD.sub [0, 1, 2, 3, 4] (by decide) rfl) hS (Nat.le_of_ble_eq_true rfl) (Nat.le_of_ble_eq_true rfl) dX9_meansOne_241
                · have od9 : oD kf k = 32 := if_pos (by omega)
                  refine z_bipush C dX9_meansOne_220 rfl ?_
                  refine lv_goto (tgt := 236) hx hb dX9_meansOne_222 (by decide) ?_
                  refine lv_iload_n hx hb dX9_meansOne_236 rfl (lv_at hl 3 rfl) ?_
                  refine z_iaddN C (32) (sN) rfl rfl dX9_meansOne_237 ?_
                  refine lv_iload hx hb dX9_meansOne_238 (lv_at hl 0 rfl) ?_
                  refine z_iast C hP hD hS 4 rfl ((32 + sN)) rfl (by omega) (by decide) (v := (jv_5)) (ws' := [(a, .inr (9, [v0, v1, v2, v3, v4, .ref (qk), .ref (qp), .ref (qu), v8, v9, .int (zI ((tk : Nat) : Int)), v11, .int (zI ((ft : Nat) : Int)), v13, .int (zI ((g1_4.1 : Nat) : Int)), .int (zI (g1_4.2)), v16, v17, v18, v19, v20, v21, .int (zI ((w : Nat) : Int)), .int (zI ((le : Nat) : Int)), .int (zB (ra)), .int (zB (rl)), .ref (qf), v27, v28, v29, v30, v31, v32, v33, v34, v35, v36, v37, v38, v39, v40, v41, v42, v43, v44])), (qk, .inl (dA 3, 403, .inl (fun jz => zI (kf jz)))), (qp, .inl (dA 3, 403, .inl (fun jz => zI (pf jz)))), (qu, .inl (dA 3, 403, .inl (fun jz => zI (uf jz)))), (qf, .inl (dA 3, 66, .inl (fun jz => zI ((va_up fr (32 + sN) (jv_5)) jz))))]) rfl dX9_meansOne_240 (fun H locs hP hD hS => ?_)
                  have ii : oI kf uf w le ra rl k g = true := by rw [← hi2]; exact c_207
                  have ok0 : oK (kf k) = true := decide_eq_true (by omega)
                  have e9 : oG kf pf uf w le ra rl k g = g1_4 := by unfold oG; rw [if_pos ok0, if_neg (by omega), ← hg2, jt9]; exact hp_200.1.symm
                  have ok8 := hp_200.2
                  have e7 : oF kf uf w le ra rl k g fr = (va_up fr (32 + sN) (jv_5)) := by unfold oF; rw [if_pos ⟨ok0, oI_iff.mp ii⟩, if_neg (by omega), od9, esN, Int.toNat_natCast, jt9, e_jv_5]; try rw [Nat.zero_add]
                  exact z_vretG C hlk hr hQ ⟨g1_4, (va_up fr (32 + sN) (jv_5))⟩ rfl ⟨⟨e9.symm, ok8⟩, e7.symm⟩ (hP.sub [0, 1, 2, 3, 4] rfl) (hD.sub [0, 1, 2, 3, 4] (by decide) rfl) hS (Nat.le_of_ble_eq_true rfl) (Nat.le_of_ble_eq_true rfl) dX9_meansOne_241
          · refine lv_iload hx hb dX9_meansOne_151 (lv_at hl 1 rfl) ?_
            refine z_if_eqB (tgt := 183) C dX9_meansOne_153 (by decide) (fun c_153 => ?_) (fun c_153 => ?_)
            · have ii : oI kf uf w le ra rl k g = false := by rw [← hi2]; exact c_153
              have ok0 : oK (kf k) = true := decide_eq_true (by omega)
              have e9 : oG kf pf uf w le ra rl k g = g2 := by unfold oG; rw [if_pos ok0, if_pos (by omega), ← hg2]
              have ok8 := hgk
              have e7 : oF kf uf w le ra rl k g fr = fr := by unfold oF; rw [if_neg (fun q => by have := oI_iff.mpr q.2; rw [ii] at this; exact absurd this (by decide))]
              exact z_vretG C hlk hr hQ ⟨g2, fr⟩ rfl ⟨⟨e9.symm, ok8⟩, e7.symm⟩ (hP.sub [0, 1, 2, 3, 4] rfl) (hD.sub [0, 1, 2, 3, 4] (by decide) rfl) hS (Nat.le_of_ble_eq_true rfl) (Nat.le_of_ble_eq_true rfl) dX9_meansOne_183
            · have s16 : sN < 16 := (by have h5 := hi2; rw [c_153] at h5; have h6 := oI_iff.mp h5.symm; have h7 := hv h6.2; rcases Nat.lt_or_ge sN (w * le) with q | q; omega; have h8 := oBad_ge (kf := kf) (uf := uf) (w := w) (le := le) (ra := ra) (rl := rl) (k := k) (by omega); rw [h8] at h6; exact absurd h6.1 (by decide))
              refine lv_aload_n hx hb dX9_meansOne_156 rfl (lv_at hl 4 rfl) ?_
              refine z_get C hP 0 rfl rfl in_X9 26 (by decide) q1910 rfl dX9_meansOne_157 ?_
              refine z_bipush C dX9_meansOne_160 rfl ?_
              refine lv_iload_n hx hb dX9_meansOne_162 rfl (lv_at hl 2 rfl) ?_
              refine z_iaddN C (48) (sN) rfl rfl dX9_meansOne_163 ?_
              refine lv_aload_n hx hb dX9_meansOne_164 rfl (lv_at hl 4 rfl) ?_
              refine z_get C hP 0 rfl rfl in_X9 5 (by decide) q1889 rfl dX9_meansOne_165 ?_
              refine lv_iload_n hx hb dX9_meansOne_168 rfl (lv_at hl 5 rfl) ?_
              refine z_iconst C dX9_meansOne_169 ?_
              refine z_iaddN C (k) (2) rfl rfl dX9_meansOne_170 ?_
              refine z_iald C hP 1 rfl ((k + 2)) rfl (by omega) (by decide) dX9_meansOne_171 ?_
              refine z_bipush C dX9_meansOne_172 rfl ?_
              refine z_icmp_ne (tgt := 181) C ⟨by omega, by omega⟩ ⟨by decide, by decide⟩ dX9_meansOne_174 (by decide) (fun c_174 => ?_) (fun c_174 => ?_)
              · refine z_iconst C dX9_meansOne_181 ?_
                refine z_iast C hP hD hS 4 rfl ((48 + sN)) rfl (by omega) (by decide) (v := 2) (ws' := [(a, .inr (9, [v0, v1, v2, v3, v4, .ref (qk), .ref (qp), .ref (qu), v8, v9, .int (zI ((tk : Nat) : Int)), v11, .int (zI ((ft : Nat) : Int)), v13, .int (zI ((g2.1 : Nat) : Int)), .int (zI (g2.2)), v16, v17, v18, v19, v20, v21, .int (zI ((w : Nat) : Int)), .int (zI ((le : Nat) : Int)), .int (zB (ra)), .int (zB (rl)), .ref (qf), v27, v28, v29, v30, v31, v32, v33, v34, v35, v36, v37, v38, v39, v40, v41, v42, v43, v44])), (qk, .inl (dA 3, 403, .inl (fun jz => zI (kf jz)))), (qp, .inl (dA 3, 403, .inl (fun jz => zI (pf jz)))), (qu, .inl (dA 3, 403, .inl (fun jz => zI (uf jz)))), (qf, .inl (dA 3, 66, .inl (fun jz => zI ((va_up fr (48 + sN) 2) jz))))]) rfl dX9_meansOne_182 (fun H locs hP hD hS => ?_)
                have ii : oI kf uf w le ra rl k g = true := by rw [← hi2]; exact c_153
                have ok0 : oK (kf k) = true := decide_eq_true (by omega)
                have e9 : oG kf pf uf w le ra rl k g = g2 := by unfold oG; rw [if_pos ok0, if_pos (by omega), ← hg2]
                have ok8 := hgk
                have e7 : oF kf uf w le ra rl k g fr = (va_up fr (48 + sN) 2) := by unfold oF; rw [if_pos ⟨ok0, oI_iff.mp ii⟩, if_pos (by omega), esN, Int.toNat_natCast]; first | (rw [if_pos (by omega)]; done) | (rw [if_neg (by omega)]; done)
                exact z_vretG C hlk hr hQ ⟨g2, (va_up fr (48 + sN) 2)⟩ rfl ⟨⟨e9.symm, ok8⟩, e7.symm⟩ (hP.sub [0, 1, 2, 3, 4] rfl) (hD.sub [0, 1, 2, 3, 4] (by decide) rfl) hS (Nat.le_of_ble_eq_true rfl) (Nat.le_of_ble_eq_true rfl) dX9_meansOne_183
              · refine z_iconst C dX9_meansOne_177 ?_
                refine lv_goto (tgt := 182) hx hb dX9_meansOne_178 (by decide) ?_
                refine z_iast C hP hD hS 4 rfl ((48 + sN)) rfl (by omega) (by decide) (v := 1) (ws' := [(a, .inr (9, [v0, v1, v2, v3, v4, .ref (qk), .ref (qp), .ref (qu), v8, v9, .int (zI ((tk : Nat) : Int)), v11, .int (zI ((ft : Nat) : Int)), v13, .int (zI ((g2.1 : Nat) : Int)), .int (zI (g2.2)), v16, v17, v18, v19, v20, v21, .int (zI ((w : Nat) : Int)), .int (zI ((le : Nat) : Int)), .int (zB (ra)), .int (zB (rl)), .ref (qf), v27, v28, v29, v30, v31, v32, v33, v34, v35, v36, v37, v38, v39, v40, v41, v42, v43, v44])), (qk, .inl (dA 3, 403, .inl (fun jz => zI (kf jz)))), (qp, .inl (dA 3, 403, .inl (fun jz => zI (pf jz)))), (qu, .inl (dA 3, 403, .inl (fun jz => zI (uf jz)))), (qf, .inl (dA 3, 66, .inl (fun jz => zI ((va_up fr (48 + sN) 1) jz))))]) rfl dX9_meansOne_182 (fun H locs hP hD hS => ?_)
                have ii : oI kf uf w le ra rl k g = true := by rw [← hi2]; exact c_153
                have ok0 : oK (kf k) = true := decide_eq_true (by omega)
                have e9 : oG kf pf uf w le ra rl k g = g2 := by unfold oG; rw [if_pos ok0, if_pos (by omega), ← hg2]
                have ok8 := hgk
                have e7 : oF kf uf w le ra rl k g fr = (va_up fr (48 + sN) 1) := by unfold oF; rw [if_pos ⟨ok0, oI_iff.mp ii⟩, if_pos (by omega), esN, Int.toNat_natCast]; first | (rw [if_pos (by omega)]; done) | (rw [if_neg (by omega)]; done)
                exact z_vretG C hlk hr hQ ⟨g2, (va_up fr (48 + sN) 1)⟩ rfl ⟨⟨e9.symm, ok8⟩, e7.symm⟩ (hP.sub [0, 1, 2, 3, 4] rfl) (hD.sub [0, 1, 2, 3, 4] (by decide) rfl) hS (Nat.le_of_ble_eq_true rfl) (Nat.le_of_ble_eq_true rfl) dX9_meansOne_183
        refine lv_iload_n hx hb dX9_meansOne_82 rfl (lv_at hl 2 rfl) ?_
        refine lv_aload_n hx hb dX9_meansOne_83 rfl (lv_at hl 4 rfl) ?_
        refine z_get C hP 0 rfl rfl in_X9 22 (by decide) q1906 rfl dX9_meansOne_84 ?_
        refine lv_aload_n hx hb dX9_meansOne_87 rfl (lv_at hl 4 rfl) ?_
        refine z_get C hP 0 rfl rfl in_X9 23 (by decide) q1907 rfl dX9_meansOne_88 ?_
        refine z_imulN C (w) (le) rfl rfl dX9_meansOne_91 ?_
        refine z_icmp_ge (tgt := 134) C ⟨by omega, by omega⟩ ⟨by omega, by omega⟩ dX9_meansOne_92 (by decide) (fun c_92 => ?_) (fun c_92 => ?_)
        · have nb8 : oBad kf uf w le ra rl k = true := by first | exact oBad_ge (by omega) | exact oBad_tie esN (by omega) hal (by rw [al9] at e_lv_none ⊢; first | (rw [if_pos rfl, ← e_lv_none]; exact c_131) | (rw [if_neg (by decide), ← e_lv_none]; exact c_131))
          refine lv_aload_n hx hb dX9_meansOne_134 rfl (lv_at hl 4 rfl) ?_
          refine z_iconst C dX9_meansOne_135 ?_
          refine lv_iload_n hx hb dX9_meansOne_136 rfl (lv_at hl 5 rfl) ?_
          refine z_iconst C dX9_meansOne_137 ?_
          refine z_iaddN C (k) (1) rfl rfl dX9_meansOne_138 ?_
          refine z_gV (n := 2) (As := [.int (zI 4), .int (zI (((k + 1) : Nat) : Int))]) (rest := []) (wc := [(a, .inr (9, [v0, v1, v2, v3, v4, .ref (qk), .ref (qp), .ref (qu), v8, v9, .int (zI ((tk : Nat) : Int)), v11, .int (zI ((ft : Nat) : Int)), v13, .int (zI ((g.1 : Nat) : Int)), .int (zI (g.2)), v16, v17, v18, v19, v20, v21, .int (zI ((w : Nat) : Int)), .int (zI ((le : Nat) : Int)), .int (zB (ra)), .int (zB (rl)), .ref (qf), v27, v28, v29, v30, v31, v32, v33, v34, v35, v36, v37, v38, v39, v40, v41, v42, v43, v44])), (qp, .inl (dA 3, 403, .inl (fun jz => zI (pf jz))))]) (wr := [(qk, .inl (dA 3, 403, .inl (fun jz => zI (kf jz)))), (qu, .inl (dA 3, 403, .inl (fun jz => zI (uf jz)))), (qf, .inl (dA 3, 66, .inl (fun jz => zI (fr jz))))]) C hP hD hS hA [0, 2] [1, 3, 4] rfl rfl (by decide) (by decide) (by decide) (k_X9_wrong l D dA (a) (v0) (v1) (v2) (v3) (v4) (v8) (v9) (v11) (v13) (v16) (v17) (v18) (v19) (v20) (v21) (v27) (v28) (v29) (v30) (v31) (v32) (v33) (v34) (v35) (v36) (v37) (v38) (v39) (v40) (v41) (v42) (v43) (v44) (qk) (qp) (qu) (qf) (ft) (w) (le) (tk) (ra) (rl) (pf) (g) (4) ((k + 1)) (by first | with_reducible assumption | omega | with_reducible rfl) hg (by first | with_reducible assumption | omega | with_reducible rfl) (by first | with_reducible assumption | omega | with_reducible rfl) (by first | with_reducible assumption | omega | with_reducible rfl)) (lw_V q2093 q2095 qs76 q124 q2096) (by decide +kernel) rfl ⟨Nat.le_of_ble_eq_true rfl, Nat.le_of_ble_eq_true rfl⟩ hl.1 0 rfl rfl rfl (Nat.le_of_ble_eq_true rfl) dX9_meansOne_139 (by decide) (by decide) (fun u_139 H locs hp_139 hP hD hS _ => ?_)
          obtain ⟨g1_6, rfl⟩ : ∃ z, z = u_139 := ⟨_, rfl⟩
          have hP := hP.sub (ws' := [(a, .inr (9, [v0, v1, v2, v3, v4, .ref (qk), .ref (qp), .ref (qu), v8, v9, .int (zI ((tk : Nat) : Int)), v11, .int (zI ((ft : Nat) : Int)), v13, .int (zI ((g1_6.1 : Nat) : Int)), .int (zI (g1_6.2)), v16, v17, v18, v19, v20, v21, .int (zI ((w : Nat) : Int)), .int (zI ((le : Nat) : Int)), .int (zB (ra)), .int (zB (rl)), .ref (qf), v27, v28, v29, v30, v31, v32, v33, v34, v35, v36, v37, v38, v39, v40, v41, v42, v43, v44])), (qk, .inl (dA 3, 403, .inl (fun jz => zI (kf jz)))), (qp, .inl (dA 3, 403, .inl (fun jz => zI (pf jz)))), (qu, .inl (dA 3, 403, .inl (fun jz => zI (uf jz)))), (qf, .inl (dA 3, 66, .inl (fun jz => zI (fr jz))))]) [3, 0, 4, 1, 2] rfl
          have hD := hD.sub (ws' := [(a, .inr (9, [v0, v1, v2, v3, v4, .ref (qk), .ref (qp), .ref (qu), v8, v9, .int (zI ((tk : Nat) : Int)), v11, .int (zI ((ft : Nat) : Int)), v13, .int (zI ((g1_6.1 : Nat) : Int)), .int (zI (g1_6.2)), v16, v17, v18, v19, v20, v21, .int (zI ((w : Nat) : Int)), .int (zI ((le : Nat) : Int)), .int (zB (ra)), .int (zB (rl)), .ref (qf), v27, v28, v29, v30, v31, v32, v33, v34, v35, v36, v37, v38, v39, v40, v41, v42, v43, v44])), (qk, .inl (dA 3, 403, .inl (fun jz => zI (kf jz)))), (qp, .inl (dA 3, 403, .inl (fun jz => zI (pf jz)))), (qu, .inl (dA 3, 403, .inl (fun jz => zI (uf jz)))), (qf, .inl (dA 3, 66, .inl (fun jz => zI (fr jz))))]) [3, 0, 4, 1, 2] (by decide) rfl
          have hp_139 : g1_6 = wG pf 4 ((k + 1)) g ∧ wOk g1_6 := hp_139
          refine W.widen (k := 0) (n := 0) (Nat.le_of_ble_eq_true rfl) (Nat.le_of_ble_eq_true rfl) ?_
          refine z_iconst C dX9_meansOne_142 ?_
          refine lv_istore (lv' := [(4, .int (zI 0)), (5, .int (zB (al))), (3, .int (zI ((sN : Nat) : Int))), (2, .int (zI (kd_1))), (0, .ref (a)), (1, .int (zI ((k : Nat) : Int)))]) hx hb dX9_meansOne_143 hl (by decide) rfl (fun ls hl => ?_)
          exact J145 (false) (g1_6) (by first | (rw [if_pos nb8]; exact hp_139.1) | (rw [if_neg (by rw [(oBad_no esN (by omega) hal (by first | exact Or.inl (by omega) | exact Or.inr (by rw [al9] at e_lv_none ⊢; first | (rw [if_pos rfl, ← e_lv_none]; exact c_131) | (rw [if_neg (by decide), ← e_lv_none]; exact c_131))))]; decide)]; done)) (by first | exact hg | exact hp_139.2) (by first | exact (oI_t nb8).symm | exact oI_f (oBad_no esN (by omega) hal (by first | exact Or.inl (by omega) | exact Or.inr (by rw [al9] at e_lv_none ⊢; first | (rw [if_pos rfl, ← e_lv_none]; exact c_131) | (rw [if_neg (by decide), ← e_lv_none]; exact c_131)))) esN (by omega) his) H locs hP hD hS ls (lv_sub hl [1, 0, 2, 3, 4, 5] rfl)
        · refine lv_iload_n hx hb dX9_meansOne_95 rfl (lv_at hl 3 rfl) ?_
          refine z_bipush C dX9_meansOne_96 rfl ?_
          refine z_icmp_ne (tgt := 145) C ⟨by omega, by omega⟩ ⟨by decide, by decide⟩ dX9_meansOne_98 (by decide) (fun c_98 => ?_) (fun c_98 => ?_)
          · exact J145 (i0) (g) (by first | (rw [if_pos nb8]; exact hp_139.1) | (rw [if_neg (by rw [(oBad_no esN (by omega) hal (by first | exact Or.inl (by omega) | exact Or.inr (by rw [al9] at e_lv_none ⊢; first | (rw [if_pos rfl, ← e_lv_none]; exact c_131) | (rw [if_neg (by decide), ← e_lv_none]; exact c_131))))]; decide)]; done)) (by first | exact hg | exact hp_139.2) (by first | exact (oI_t nb8).symm | exact oI_f (oBad_no esN (by omega) hal (by first | exact Or.inl (by omega) | exact Or.inr (by rw [al9] at e_lv_none ⊢; first | (rw [if_pos rfl, ← e_lv_none]; exact c_131) | (rw [if_neg (by decide), ← e_lv_none]; exact c_131)))) esN (by omega) his) H locs hP hD hS ls (lv_sub hl [0, 1, 2, 3, 4, 5] rfl)
          · refine lv_iload_n hx hb dX9_meansOne_101 rfl (lv_at hl 2 rfl) ?_
            refine lv_iload hx hb dX9_meansOne_102 (lv_at hl 0 rfl) ?_
            refine lv_aload_n hx hb dX9_meansOne_104 rfl (lv_at hl 4 rfl) ?_
            refine z_get C hP 0 rfl rfl in_X9 22 (by decide) q1906 rfl dX9_meansOne_105 ?_
            refine lv_aload_n hx hb dX9_meansOne_108 rfl (lv_at hl 4 rfl) ?_
            refine z_get C hP 0 rfl rfl in_X9 23 (by decide) q1907 rfl dX9_meansOne_109 ?_
            refine lv_iload hx hb dX9_meansOne_112 (lv_at hl 0 rfl) ?_
            refine z_if_eqB (tgt := 124) C dX9_meansOne_114 (by decide) (fun c_114 => ?_) (fun c_114 => ?_)
            · have al9 : al = false := c_114
              refine lv_aload_n hx hb dX9_meansOne_124 rfl (lv_at hl 4 rfl) ?_
              refine z_get C hP 0 rfl rfl in_X9 24 (by decide) q1908 rfl dX9_meansOne_125 ?_
              refine z_cS (n := 5) (As := [.int (zI ((sN : Nat) : Int)), .int (zB (al)), .int (zI ((w : Nat) : Int)), .int (zI ((le : Nat) : Int)), .int (zB (ra))]) (rest := []) C (k_X9_leads_big l D dA (sN) (al) (w) (le) (ra) (by first | with_reducible assumption | omega | with_reducible rfl) (by first | with_reducible assumption | omega | with_reducible rfl) (by first | with_reducible assumption | omega | with_reducible rfl) (by first | with_reducible assumption | omega | with_reducible rfl)) (lw_S q2109 q2110 q124 q2111) (by decide +kernel) rfl ⟨Nat.le_of_ble_eq_true rfl, Nat.le_of_ble_eq_true rfl⟩ hl.1 (hP.sub [] rfl) rfl (Nat.le_of_ble_eq_true rfl) dX9_meansOne_128 (Nat.zero_le _) (Nat.zero_le _) ?_
              refine z_nm (fun lv_7 e_lv_7 => ?_)
              have ob9 := othB_b w le sN al ra
              have ob8 := othB_b w le sN al rl
              refine z_if_ge (tgt := 145) C ⟨by omega, by omega⟩ dX9_meansOne_131 (by decide) (fun c_131 => ?_) (fun c_131 => ?_)
              · exact J145 (i0) (g) (by first | (rw [if_pos nb8]; exact hp_139.1) | (rw [if_neg (by rw [(oBad_no esN (by omega) hal (by first | exact Or.inl (by omega) | exact Or.inr (by rw [al9] at e_lv_7 ⊢; first | (rw [if_pos rfl, ← e_lv_7]; exact c_131) | (rw [if_neg (by decide), ← e_lv_7]; exact c_131))))]; decide)]; done)) (by first | exact hg | exact hp_139.2) (by first | exact (oI_t nb8).symm | exact oI_f (oBad_no esN (by omega) hal (by first | exact Or.inl (by omega) | exact Or.inr (by rw [al9] at e_lv_7 ⊢; first | (rw [if_pos rfl, ← e_lv_7]; exact c_131) | (rw [if_neg (by decide), ← e_lv_7]; exact c_131)))) esN (by omega) his) H locs hP hD hS ls (lv_sub hl [0, 1, 2, 3, 4, 5] rfl)
              · have nb8 : oBad kf uf w le ra rl k = true := by first | exact oBad_ge (by omega) | exact oBad_tie esN (by omega) hal (by rw [al9] at e_lv_7 ⊢; first | (rw [if_pos rfl, ← e_lv_7]; exact c_131) | (rw [if_neg (by decide), ← e_lv_7]; exact c_131))
                refine lv_aload_n hx hb dX9_meansOne_134 rfl (lv_at hl 4 rfl) ?_
                refine z_iconst C dX9_meansOne_135 ?_
                refine lv_iload_n hx hb dX9_meansOne_136 rfl (lv_at hl 5 rfl) ?_
                refine z_iconst C dX9_meansOne_137 ?_
                refine z_iaddN C (k) (1) rfl rfl dX9_meansOne_138 ?_
                refine z_gV (n := 2) (As := [.int (zI 4), .int (zI (((k + 1) : Nat) : Int))]) (rest := []) (wc := [(a, .inr (9, [v0, v1, v2, v3, v4, .ref (qk), .ref (qp), .ref (qu), v8, v9, .int (zI ((tk : Nat) : Int)), v11, .int (zI ((ft : Nat) : Int)), v13, .int (zI ((g.1 : Nat) : Int)), .int (zI (g.2)), v16, v17, v18, v19, v20, v21, .int (zI ((w : Nat) : Int)), .int (zI ((le : Nat) : Int)), .int (zB (ra)), .int (zB (rl)), .ref (qf), v27, v28, v29, v30, v31, v32, v33, v34, v35, v36, v37, v38, v39, v40, v41, v42, v43, v44])), (qp, .inl (dA 3, 403, .inl (fun jz => zI (pf jz))))]) (wr := [(qk, .inl (dA 3, 403, .inl (fun jz => zI (kf jz)))), (qu, .inl (dA 3, 403, .inl (fun jz => zI (uf jz)))), (qf, .inl (dA 3, 66, .inl (fun jz => zI (fr jz))))]) C hP hD hS hA [0, 2] [1, 3, 4] rfl rfl (by decide) (by decide) (by decide) (k_X9_wrong l D dA (a) (v0) (v1) (v2) (v3) (v4) (v8) (v9) (v11) (v13) (v16) (v17) (v18) (v19) (v20) (v21) (v27) (v28) (v29) (v30) (v31) (v32) (v33) (v34) (v35) (v36) (v37) (v38) (v39) (v40) (v41) (v42) (v43) (v44) (qk) (qp) (qu) (qf) (ft) (w) (le) (tk) (ra) (rl) (pf) (g) (4) ((k + 1)) (by first | with_reducible assumption | omega | with_reducible rfl) hg (by first | with_reducible assumption | omega | with_reducible rfl) (by first | with_reducible assumption | omega | with_reducible rfl) (by first | with_reducible assumption | omega | with_reducible rfl)) (lw_V q2093 q2095 qs76 q124 q2096) (by decide +kernel) rfl ⟨Nat.le_of_ble_eq_true rfl, Nat.le_of_ble_eq_true rfl⟩ hl.1 0 rfl rfl rfl (Nat.le_of_ble_eq_true rfl) dX9_meansOne_139 (by decide) (by decide) (fun u_139 H locs hp_139 hP hD hS _ => ?_)
                obtain ⟨g1_8, rfl⟩ : ∃ z, z = u_139 := ⟨_, rfl⟩
                have hP := hP.sub (ws' := [(a, .inr (9, [v0, v1, v2, v3, v4, .ref (qk), .ref (qp), .ref (qu), v8, v9, .int (zI ((tk : Nat) : Int)), v11, .int (zI ((ft : Nat) : Int)), v13, .int (zI ((g1_8.1 : Nat) : Int)), .int (zI (g1_8.2)), v16, v17, v18, v19, v20, v21, .int (zI ((w : Nat) : Int)), .int (zI ((le : Nat) : Int)), .int (zB (ra)), .int (zB (rl)), .ref (qf), v27, v28, v29, v30, v31, v32, v33, v34, v35, v36, v37, v38, v39, v40, v41, v42, v43, v44])), (qk, .inl (dA 3, 403, .inl (fun jz => zI (kf jz)))), (qp, .inl (dA 3, 403, .inl (fun jz => zI (pf jz)))), (qu, .inl (dA 3, 403, .inl (fun jz => zI (uf jz)))), (qf, .inl (dA 3, 66, .inl (fun jz => zI (fr jz))))]) [3, 0, 4, 1, 2] rfl
                have hD := hD.sub (ws' := [(a, .inr (9, [v0, v1, v2, v3, v4, .ref (qk), .ref (qp), .ref (qu), v8, v9, .int (zI ((tk : Nat) : Int)), v11, .int (zI ((ft : Nat) : Int)), v13, .int (zI ((g1_8.1 : Nat) : Int)), .int (zI (g1_8.2)), v16, v17, v18, v19, v20, v21, .int (zI ((w : Nat) : Int)), .int (zI ((le : Nat) : Int)), .int (zB (ra)), .int (zB (rl)), .ref (qf), v27, v28, v29, v30, v31, v32, v33, v34, v35, v36, v37, v38, v39, v40, v41, v42, v43, v44])), (qk, .inl (dA 3, 403, .inl (fun jz => zI (kf jz)))), (qp, .inl (dA 3, 403, .inl (fun jz => zI (pf jz)))), (qu, .inl (dA 3, 403, .inl (fun jz => zI (uf jz)))), (qf, .inl (dA 3, 66, .inl (fun jz => zI (fr jz))))]) [3, 0, 4, 1, 2] (by decide) rfl
                have hp_139 : g1_8 = wG pf 4 ((k + 1)) g ∧ wOk g1_8 := hp_139
                refine W.widen (k := 0) (n := 0) (Nat.le_of_ble_eq_true rfl) (Nat.le_of_ble_eq_true rfl) ?_
                refine z_iconst C dX9_meansOne_142 ?_
                refine lv_istore (lv' := [(4, .int (zI 0)), (5, .int (zB (al))), (3, .int (zI ((sN : Nat) : Int))), (2, .int (zI (kd_1))), (0, .ref (a)), (1, .int (zI ((k : Nat) : Int)))]) hx hb dX9_meansOne_143 hl (by decide) rfl (fun ls hl => ?_)
                exact J145 (false) (g1_8) (by first | (rw [if_pos nb8]; exact hp_139.1) | (rw [if_neg (by rw [(oBad_no esN (by omega) hal (by first | exact Or.inl (by omega) | exact Or.inr (by rw [al9] at e_lv_7 ⊢; first | (rw [if_pos rfl, ← e_lv_7]; exact c_131) | (rw [if_neg (by decide), ← e_lv_7]; exact c_131))))]; decide)]; done)) (by first | exact hg | exact hp_139.2) (by first | exact (oI_t nb8).symm | exact oI_f (oBad_no esN (by omega) hal (by first | exact Or.inl (by omega) | exact Or.inr (by rw [al9] at e_lv_7 ⊢; first | (rw [if_pos rfl, ← e_lv_7]; exact c_131) | (rw [if_neg (by decide), ← e_lv_7]; exact c_131)))) esN (by omega) his) H locs hP hD hS ls (lv_sub hl [1, 0, 2, 3, 4, 5] rfl)
            · have al9 : al = true := c_114
              refine lv_aload_n hx hb dX9_meansOne_117 rfl (lv_at hl 4 rfl) ?_
              refine z_get C hP 0 rfl rfl in_X9 25 (by decide) q1909 rfl dX9_meansOne_118 ?_
              refine lv_goto (tgt := 128) hx hb dX9_meansOne_121 (by decide) ?_
              refine z_cS (n := 5) (As := [.int (zI ((sN : Nat) : Int)), .int (zB (al)), .int (zI ((w : Nat) : Int)), .int (zI ((le : Nat) : Int)), .int (zB (rl))]) (rest := []) C (k_X9_leads_big l D dA (sN) (al) (w) (le) (rl) (by first | with_reducible assumption | omega | with_reducible rfl) (by first | with_reducible assumption | omega | with_reducible rfl) (by first | with_reducible assumption | omega | with_reducible rfl) (by first | with_reducible assumption | omega | with_reducible rfl)) (lw_S q2109 q2110 q124 q2111) (by decide +kernel) rfl ⟨Nat.le_of_ble_eq_true rfl, Nat.le_of_ble_eq_true rfl⟩ hl.1 (hP.sub [] rfl) rfl (Nat.le_of_ble_eq_true rfl) dX9_meansOne_128 (Nat.zero_le _) (Nat.zero_le _) ?_
              refine z_nm (fun lv_9 e_lv_9 => ?_)
              have ob9 := othB_b w le sN al ra
              have ob8 := othB_b w le sN al rl
              refine z_if_ge (tgt := 145) C ⟨by omega, by omega⟩ dX9_meansOne_131 (by decide) (fun c_131 => ?_) (fun c_131 => ?_)
              · exact J145 (i0) (g) (by first | (rw [if_pos nb8]; exact hp_139.1) | (rw [if_neg (by rw [(oBad_no esN (by omega) hal (by first | exact Or.inl (by omega) | exact Or.inr (by rw [al9] at e_lv_9 ⊢; first | (rw [if_pos rfl, ← e_lv_9]; exact c_131) | (rw [if_neg (by decide), ← e_lv_9]; exact c_131))))]; decide)]; done)) (by first | exact hg | exact hp_139.2) (by first | exact (oI_t nb8).symm | exact oI_f (oBad_no esN (by omega) hal (by first | exact Or.inl (by omega) | exact Or.inr (by rw [al9] at e_lv_9 ⊢; first | (rw [if_pos rfl, ← e_lv_9]; exact c_131) | (rw [if_neg (by decide), ← e_lv_9]; exact c_131)))) esN (by omega) his) H locs hP hD hS ls (lv_sub hl [0, 1, 2, 3, 4, 5] rfl)
              · have nb8 : oBad kf uf w le ra rl k = true := by first | exact oBad_ge (by omega) | exact oBad_tie esN (by omega) hal (by rw [al9] at e_lv_9 ⊢; first | (rw [if_pos rfl, ← e_lv_9]; exact c_131) | (rw [if_neg (by decide), ← e_lv_9]; exact c_131))
                refine lv_aload_n hx hb dX9_meansOne_134 rfl (lv_at hl 4 rfl) ?_
                refine z_iconst C dX9_meansOne_135 ?_
                refine lv_iload_n hx hb dX9_meansOne_136 rfl (lv_at hl 5 rfl) ?_
                refine z_iconst C dX9_meansOne_137 ?_
                refine z_iaddN C (k) (1) rfl rfl dX9_meansOne_138 ?_
                refine z_gV (n := 2) (As := [.int (zI 4), .int (zI (((k + 1) : Nat) : Int))]) (rest := []) (wc := [(a, .inr (9, [v0, v1, v2, v3, v4, .ref (qk), .ref (qp), .ref (qu), v8, v9, .int (zI ((tk : Nat) : Int)), v11, .int (zI ((ft : Nat) : Int)), v13, .int (zI ((g.1 : Nat) : Int)), .int (zI (g.2)), v16, v17, v18, v19, v20, v21, .int (zI ((w : Nat) : Int)), .int (zI ((le : Nat) : Int)), .int (zB (ra)), .int (zB (rl)), .ref (qf), v27, v28, v29, v30, v31, v32, v33, v34, v35, v36, v37, v38, v39, v40, v41, v42, v43, v44])), (qp, .inl (dA 3, 403, .inl (fun jz => zI (pf jz))))]) (wr := [(qk, .inl (dA 3, 403, .inl (fun jz => zI (kf jz)))), (qu, .inl (dA 3, 403, .inl (fun jz => zI (uf jz)))), (qf, .inl (dA 3, 66, .inl (fun jz => zI (fr jz))))]) C hP hD hS hA [0, 2] [1, 3, 4] rfl rfl (by decide) (by decide) (by decide) (k_X9_wrong l D dA (a) (v0) (v1) (v2) (v3) (v4) (v8) (v9) (v11) (v13) (v16) (v17) (v18) (v19) (v20) (v21) (v27) (v28) (v29) (v30) (v31) (v32) (v33) (v34) (v35) (v36) (v37) (v38) (v39) (v40) (v41) (v42) (v43) (v44) (qk) (qp) (qu) (qf) (ft) (w) (le) (tk) (ra) (rl) (pf) (g) (4) ((k + 1)) (by first | with_reducible assumption | omega | with_reducible rfl) hg (by first | with_reducible assumption | omega | with_reducible rfl) (by first | with_reducible assumption | omega | with_reducible rfl) (by first | with_reducible assumption | omega | with_reducible rfl)) (lw_V q2093 q2095 qs76 q124 q2096) (by decide +kernel) rfl ⟨Nat.le_of_ble_eq_true rfl, Nat.le_of_ble_eq_true rfl⟩ hl.1 0 rfl rfl rfl (Nat.le_of_ble_eq_true rfl) dX9_meansOne_139 (by decide) (by decide) (fun u_139 H locs hp_139 hP hD hS _ => ?_)
                obtain ⟨g1_10, rfl⟩ : ∃ z, z = u_139 := ⟨_, rfl⟩
                have hP := hP.sub (ws' := [(a, .inr (9, [v0, v1, v2, v3, v4, .ref (qk), .ref (qp), .ref (qu), v8, v9, .int (zI ((tk : Nat) : Int)), v11, .int (zI ((ft : Nat) : Int)), v13, .int (zI ((g1_10.1 : Nat) : Int)), .int (zI (g1_10.2)), v16, v17, v18, v19, v20, v21, .int (zI ((w : Nat) : Int)), .int (zI ((le : Nat) : Int)), .int (zB (ra)), .int (zB (rl)), .ref (qf), v27, v28, v29, v30, v31, v32, v33, v34, v35, v36, v37, v38, v39, v40, v41, v42, v43, v44])), (qk, .inl (dA 3, 403, .inl (fun jz => zI (kf jz)))), (qp, .inl (dA 3, 403, .inl (fun jz => zI (pf jz)))), (qu, .inl (dA 3, 403, .inl (fun jz => zI (uf jz)))), (qf, .inl (dA 3, 66, .inl (fun jz => zI (fr jz))))]) [3, 0, 4, 1, 2] rfl
                have hD := hD.sub (ws' := [(a, .inr (9, [v0, v1, v2, v3, v4, .ref (qk), .ref (qp), .ref (qu), v8, v9, .int (zI ((tk : Nat) : Int)), v11, .int (zI ((ft : Nat) : Int)), v13, .int (zI ((g1_10.1 : Nat) : Int)), .int (zI (g1_10.2)), v16, v17, v18, v19, v20, v21, .int (zI ((w : Nat) : Int)), .int (zI ((le : Nat) : Int)), .int (zB (ra)), .int (zB (rl)), .ref (qf), v27, v28, v29, v30, v31, v32, v33, v34, v35, v36, v37, v38, v39, v40, v41, v42, v43, v44])), (qk, .inl (dA 3, 403, .inl (fun jz => zI (kf jz)))), (qp, .inl (dA 3, 403, .inl (fun jz => zI (pf jz)))), (qu, .inl (dA 3, 403, .inl (fun jz => zI (uf jz)))), (qf, .inl (dA 3, 66, .inl (fun jz => zI (fr jz))))]) [3, 0, 4, 1, 2] (by decide) rfl
                have hp_139 : g1_10 = wG pf 4 ((k + 1)) g ∧ wOk g1_10 := hp_139
                refine W.widen (k := 0) (n := 0) (Nat.le_of_ble_eq_true rfl) (Nat.le_of_ble_eq_true rfl) ?_
                refine z_iconst C dX9_meansOne_142 ?_
                refine lv_istore (lv' := [(4, .int (zI 0)), (5, .int (zB (al))), (3, .int (zI ((sN : Nat) : Int))), (2, .int (zI (kd_1))), (0, .ref (a)), (1, .int (zI ((k : Nat) : Int)))]) hx hb dX9_meansOne_143 hl (by decide) rfl (fun ls hl => ?_)
                exact J145 (false) (g1_10) (by first | (rw [if_pos nb8]; exact hp_139.1) | (rw [if_neg (by rw [(oBad_no esN (by omega) hal (by first | exact Or.inl (by omega) | exact Or.inr (by rw [al9] at e_lv_9 ⊢; first | (rw [if_pos rfl, ← e_lv_9]; exact c_131) | (rw [if_neg (by decide), ← e_lv_9]; exact c_131))))]; decide)]; done)) (by first | exact hg | exact hp_139.2) (by first | exact (oI_t nb8).symm | exact oI_f (oBad_no esN (by omega) hal (by first | exact Or.inl (by omega) | exact Or.inr (by rw [al9] at e_lv_9 ⊢; first | (rw [if_pos rfl, ← e_lv_9]; exact c_131) | (rw [if_neg (by decide), ← e_lv_9]; exact c_131)))) esN (by omega) his) H locs hP hD hS ls (lv_sub hl [1, 0, 2, 3, 4, 5] rfl)
      refine lv_aload_n hx hb dX9_meansOne_62 rfl (lv_at hl 3 rfl) ?_
      refine z_get C hP 0 rfl rfl in_X9 5 (by decide) q1889 rfl dX9_meansOne_63 ?_
      refine lv_iload_n hx hb dX9_meansOne_66 rfl (lv_at hl 4 rfl) ?_
      refine z_iconst C dX9_meansOne_67 ?_
      refine z_iaddN C (k) (2) rfl rfl dX9_meansOne_68 ?_
      refine z_iald C hP 1 rfl ((k + 2)) rfl (by omega) (by decide) dX9_meansOne_69 ?_
      refine z_bipush C dX9_meansOne_70 rfl ?_
      refine z_icmp_ne (tgt := 79) C ⟨by omega, by omega⟩ ⟨by decide, by decide⟩ dX9_meansOne_72 (by decide) (fun c_72 => ?_) (fun c_72 => ?_)
      · refine z_iconst C dX9_meansOne_79 ?_
        exact J80 (false) (by first | (rw [decide_eq_true (by omega)]; done) | (rw [decide_eq_false (by omega)]; done)) H locs hP hD hS ls (lv_sub hl [0, 1, 2, 3, 4] rfl)
      · refine z_iconst C dX9_meansOne_75 ?_
        refine lv_goto (tgt := 80) hx hb dX9_meansOne_76 (by decide) ?_
        exact J80 (true) (by first | (rw [decide_eq_true (by omega)]; done) | (rw [decide_eq_false (by omega)]; done)) H locs hP hD hS ls (lv_sub hl [0, 1, 2, 3, 4] rfl)
    refine lv_iload_n hx hb dX9_meansOne_35 rfl (lv_at hl 0 rfl) ?_
    refine lv_aload_n hx hb dX9_meansOne_36 rfl (lv_at hl 2 rfl) ?_
    refine z_get C hP 0 rfl rfl in_X9 22 (by decide) q1906 rfl dX9_meansOne_37 ?_
    refine lv_aload_n hx hb dX9_meansOne_40 rfl (lv_at hl 2 rfl) ?_
    refine z_get C hP 0 rfl rfl in_X9 23 (by decide) q1907 rfl dX9_meansOne_41 ?_
    refine z_imulN C (w) (le) rfl rfl dX9_meansOne_44 ?_
    refine z_icmp_ge (tgt := 59) C ⟨by omega, by omega⟩ ⟨by omega, by omega⟩ dX9_meansOne_45 (by decide) (fun c_45 => ?_) (fun c_45 => ?_)
    · refine z_iconst C dX9_meansOne_59 ?_
      exact J60 (false) (by first | (rw [decide_eq_true (by omega)]; done) | (rw [decide_eq_false (by omega)]; done)) H locs hP hD hS ls (lv_sub hl [0, 1, 2, 3] rfl)
    · refine lv_aload_n hx hb dX9_meansOne_48 rfl (lv_at hl 2 rfl) ?_
      refine z_get C hP 0 rfl rfl in_X9 14 (by decide) q1898 rfl dX9_meansOne_49 ?_
      refine z_if_ne (tgt := 59) C ⟨by omega, by omega⟩ dX9_meansOne_52 (by decide) (fun c_52 => ?_) (fun c_52 => ?_)
      · refine z_iconst C dX9_meansOne_59 ?_
        exact J60 (false) (by first | (rw [decide_eq_true (by omega)]; done) | (rw [decide_eq_false (by omega)]; done)) H locs hP hD hS ls (lv_sub hl [0, 1, 2, 3] rfl)
      · refine z_iconst C dX9_meansOne_55 ?_
        refine lv_goto (tgt := 60) hx hb dX9_meansOne_56 (by decide) ?_
        exact J60 (true) (by first | (rw [decide_eq_true (by omega)]; done) | (rw [decide_eq_false (by omega)]; done)) H locs hP hD hS ls (lv_sub hl [0, 1, 2, 3] rfl)
  refine lv_iload_n hx hb dX9_meansOne_7 rfl (lv_at hl 0 rfl) ?_
  refine z_bipush C dX9_meansOne_8 rfl ?_
  refine z_icmp_eq (tgt := 26) C ⟨by omega, by omega⟩ ⟨by decide, by decide⟩ dX9_meansOne_10 (by decide) (fun c_10 => ?_) (fun c_10 => ?_)
  · exact J26  (by first | with_reducible assumption | omega | with_reducible rfl) H locs hP hD hS ls (lv_sub hl [0, 1, 2] rfl)
  · refine lv_iload_n hx hb dX9_meansOne_13 rfl (lv_at hl 0 rfl) ?_
    refine z_bipush C dX9_meansOne_14 rfl ?_
    refine z_icmp_eq (tgt := 26) C ⟨by omega, by omega⟩ ⟨by decide, by decide⟩ dX9_meansOne_16 (by decide) (fun c_16 => ?_) (fun c_16 => ?_)
    · exact J26  (by first | with_reducible assumption | omega | with_reducible rfl) H locs hP hD hS ls (lv_sub hl [0, 1, 2] rfl)
    · refine lv_iload_n hx hb dX9_meansOne_19 rfl (lv_at hl 0 rfl) ?_
      refine z_bipush C dX9_meansOne_20 rfl ?_
      refine z_icmp_eq (tgt := 26) C ⟨by omega, by omega⟩ ⟨by decide, by decide⟩ dX9_meansOne_22 (by decide) (fun c_22 => ?_) (fun c_22 => ?_)
      · exact J26  (by first | with_reducible assumption | omega | with_reducible rfl) H locs hP hD hS ls (lv_sub hl [0, 1, 2] rfl)
      · have e9 : oG kf pf uf w le ra rl k g = g := by unfold oG; rw [if_neg (fun q => by have := of_decide_eq_true q; omega)]
        have ok8 := hg
        have e7 : oF kf uf w le ra rl k g fr = fr := by unfold oF; rw [if_neg (fun q => by have := of_decide_eq_true q.1; omega)]
        exact z_vretG C hlk hr hQ ⟨g, fr⟩ rfl ⟨⟨e9.symm, ok8⟩, e7.symm⟩ (hP.sub [0, 1, 2, 3, 4] rfl) (hD.sub [0, 1, 2, 3, 4] (by decide) rfl) hS (Nat.le_of_ble_eq_true rfl) (Nat.le_of_ble_eq_true rfl) dX9_meansOne_25
