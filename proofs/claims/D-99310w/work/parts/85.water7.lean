theorem KW_keep {m m1 : MS} (km : KM m m1) (ke : m1.2.1 10 = m.2.1 10) : KW m m1 := ⟨km.1, fun i _ => by rw [ke], km.2.2.1, km.2.2.2⟩
theorem KW_sim {m m2 : MS} (h : KW m m2) (e : ∀ j, j ≠ 1 → m2.2.1 10 j = m.2.1 10 j) : SimM m (mA m2 10 1 (m.2.1 10 1)) := ⟨fun k a b c e f => by rw [mA_1]; exact h.2.2.2 k a b c e f, fun j hj => by
  by_cases c : j = 10
  · subst c
    funext i
    by_cases c : i = 1
    · rw [c, mA_s]
    · rw [mA_n _ _ _ _ c, e i c]
  · rw [show (mA m2 10 1 (m.2.1 10 1)).2.1 j = m2.2.1 j from va_up_ne _ _ (by omega)]
    exact h.2.2.1 j (by omega)⟩
theorem op_water (v : Int32) : AskOK n_X0_water n_X4_water [.int v] := by
  intro Z d x m hR k
  obtain ⟨C, A, n, u, a, t, nr, F, fo, hP, hS⟩ := Rel_to hR
  obtain ⟨hZ, hV, hN, hPR, hT, hRR, hF, hD, hBr, hI⟩ := id hP
  have hvp := (hV.2.1 d (Ext_refl Z d)).1
  have h6 := hV.1.1.2
  have hfl := flag_eq hV
  have xv := X_isValley (k + 998) d x m C (hvp.1 x m)
  have mv : ∀ x, _ := fun x => M_isValley (k + 998) d x m
  rw [hfl] at mv
  by_cases c1 : 0 < C.2.2.2.1
  · cases c2 : inI 1 60 v with
    | true =>
      obtain ⟨j, hj1, hj, rfl⟩ := inI_1 (n := 60) (by omega) c2
      have hC := Rel_XC hV hRR hF hBr.1
      have hCm := Rel_VC hV.1 hRR hF hBr.2.1
      have hAm := Rel_VA (fo := fo) (F := F) hS.1 hBr.2.2
      have hWw := Rel_WA (fo := fo) (F := F) hS.2.2
      obtain ⟨x2, e2, s2⟩ := X_waterL (k + 794) d m C fo F j hj h6 A hWw x hC hS.2.1 10 0 x (by omega) (SimX_refl x)
      have g0 := M_withWorth (k + 997) d x2 m C.1 h6 hV.1.1.1
      have hgo : orI (hotB fun h => m.2.1 10 (14 + 4 * h)) C.1 = orI (hotB (A.1 0)) C.1 := orI_c fun i hi => hotB_c (hS.1.1 i hi).1
      rw [hgo] at g0
      obtain ⟨m1, g1, q1⟩ := M_keeps (k + 998) d x2 m
      obtain ⟨km, ke⟩ := KM_keep q1
      obtain ⟨m2, g2, k2, he2⟩ := M_waterL (k + 991) d x2 C fo F j hj h6 A hWw hS.2.2.2.2.2.2.1 m hCm hAm (m.2.1 10 1) 10 0 m1 (by omega) (KW_keep km ke) (fun j _ => by rw [ke])
      have l1 : ldI (P d x2 m) 163 0 (1 : Int32) = some (m.2.1 10 1) := lm_10 d x2 m 1 (by omega)
      have s1 : stI (P d x2 m2) 163 0 (1 : Int32) (m.2.1 10 1) = some (P d x2 (mA m2 10 1 (m.2.1 10 1))) := sm_10 d x2 m2 1 _ (by omega)
      refine ⟨heardV (waterA (CW C fo F none) A j 10 0), x2, ?_, s2, _, ?_, KW_sim k2 he2⟩
      · rw [nI_0] at e2
        simp (disch := omega) only [c_X0_water, e_X0_water_0, e_X0_water_7, e_X0_water_21, cond_true, cond_false, Option.bind_some, rI_s, rL_s, rR_s, rV_s, cnd_d, cnd_ne, cnd_eq, bI_d0, bI_t0, ite_not, decide_eq_false_iff_not, decide_eq_true_eq, lg_cmp_ge, lg_cmp_le, lg_cmp_gt, lg_cmp_lt, lg_cmp_eq, okb_1, okb_0, okb_b, eq_self, if_true, if_false, Bool.true_eq_false, Bool.false_eq_true, isO_X, xv, c1, X_in, in_1_60, c2, e2]
      · rw [nI_0] at g2
        simp (disch := omega) only [c_X4_water, e_X4_water_0, e_X4_water_7, e_X4_water_21, e_X4_water_91, cond_true, cond_false, Option.bind_some, rI_s, rL_s, rR_s, rV_s, cnd_d, cnd_ne, cnd_eq, bI_d0, bI_t0, ite_not, decide_eq_false_iff_not, decide_eq_true_eq, lg_cmp_ge, lg_cmp_le, lg_cmp_gt, lg_cmp_lt, lg_cmp_eq, okb_1, okb_0, okb_b, eq_self, if_true, if_false, Bool.true_eq_false, Bool.false_eq_true, isO_M, mv, c1, M_in, in_1_60, c2, rm_21, l1, g0, g1, g2, s1]
    | false =>
      refine ask_n (-1) ?_ ?_
      · simp (disch := omega) only [c_X0_water, e_X0_water_0, e_X0_water_7, e_X0_water_19, cond_true, cond_false, Option.bind_some, rI_s, rL_s, rR_s, rV_s, cnd_d, cnd_ne, cnd_eq, bI_d0, bI_t0, ite_not, decide_eq_false_iff_not, decide_eq_true_eq, lg_cmp_ge, lg_cmp_le, lg_cmp_gt, lg_cmp_lt, lg_cmp_eq, okb_1, okb_0, okb_b, eq_self, if_true, if_false, Bool.true_eq_false, Bool.false_eq_true, isO_X, xv, c1, X_in, in_1_60, c2]
      · simp (disch := omega) only [c_X4_water, e_X4_water_0, e_X4_water_7, e_X4_water_19, cond_true, cond_false, Option.bind_some, rI_s, rL_s, rR_s, rV_s, cnd_d, cnd_ne, cnd_eq, bI_d0, bI_t0, ite_not, decide_eq_false_iff_not, decide_eq_true_eq, lg_cmp_ge, lg_cmp_le, lg_cmp_gt, lg_cmp_lt, lg_cmp_eq, okb_1, okb_0, okb_b, eq_self, if_true, if_false, Bool.true_eq_false, Bool.false_eq_true, isO_M, mv, c1, M_in, in_1_60, c2]
  · refine ask_n (-1) ?_ ?_
    · simp (disch := omega) only [c_X0_water, e_X0_water_0, e_X0_water_19, cond_true, cond_false, Option.bind_some, rI_s, rL_s, rR_s, rV_s, cnd_d, cnd_ne, cnd_eq, bI_d0, bI_t0, ite_not, decide_eq_false_iff_not, decide_eq_true_eq, lg_cmp_ge, lg_cmp_le, lg_cmp_gt, lg_cmp_lt, lg_cmp_eq, okb_1, okb_0, okb_b, eq_self, if_true, if_false, Bool.true_eq_false, Bool.false_eq_true, isO_X, xv, c1]
    · simp (disch := omega) only [c_X4_water, e_X4_water_0, e_X4_water_19, cond_true, cond_false, Option.bind_some, rI_s, rL_s, rR_s, rV_s, cnd_d, cnd_ne, cnd_eq, bI_d0, bI_t0, ite_not, decide_eq_false_iff_not, decide_eq_true_eq, lg_cmp_ge, lg_cmp_le, lg_cmp_gt, lg_cmp_lt, lg_cmp_eq, okb_1, okb_0, okb_b, eq_self, if_true, if_false, Bool.true_eq_false, Bool.false_eq_true, isO_M, mv, c1]
