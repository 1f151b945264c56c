theorem op_ahead (g v w : Int32) : AskOK n_X0_ahead n_X4_ahead [.int g, .int v, .int w] := by
  intro Z d x m hR k
  obtain ⟨hZ, C, A, n, u, a, t, nr, F, fo, hV, hA, hX, hW, hN, hP, hT, hRR, hF, hD, hBr, hI⟩ := id hR
  have hvp := (hV.2.1 d (Ext_refl Z d)).1
  have h6 := hV.1.1.2
  have hfl := flag_eq hV
  have xv := X_isValley (k + 998) d x m C (hvp.1 x m)
  have xh := X_isHouse (k + 996) d x m C (hvp.1 x m) h6 g
  have mv : ∀ x, _ := fun x => M_isValley (k + 998) d x m
  rw [hfl] at mv
  have mh : ∀ x, _ := fun x => M_isHouse (k + 998) d x m C.1 h6 hV.1.1.1 g
  by_cases c1 : 0 < C.2.2.2.1
  · cases c2 : inI 0 100 v with
    | false =>
      refine ask_n (-1) ?_ ?_
      · simp (disch := omega) only [e_X0_ahead_0, e_X0_ahead_7, e_X0_ahead_32, e_X0_ahead_44, c_X0_ahead, cond_true, cond_false, Option.bind_some, rI_s, rL_s, rR_s, rV_s, cnd_d, cnd_ne, cnd_eq, bI_d0, bI_t0, ite_not, decide_eq_false_iff_not, decide_eq_true_eq, lg_cmp_ge, lg_cmp_le, lg_cmp_gt, lg_cmp_lt, lg_cmp_eq, okb_1, okb_0, okb_b, eq_self, if_true, if_false, Bool.true_eq_false, Bool.false_eq_true, isO_X, xv, c1, X_in, in_0_100, in_0_2, c2]
        cases c3 : inI 0 2 w with
        | false => rfl
        | true =>
          simp (disch := omega) only [e_X0_ahead_19, e_X0_ahead_24, e_X0_ahead_32, e_X0_ahead_44, cond_true, cond_false, Option.bind_some, rI_s, rL_s, rR_s, rV_s, cnd_d, cnd_ne, cnd_eq, bI_d0, bI_t0, ite_not, decide_eq_false_iff_not, decide_eq_true_eq, lg_cmp_ge, lg_cmp_le, lg_cmp_gt, lg_cmp_lt, lg_cmp_eq, okb_1, okb_0, okb_b, eq_self, if_true, if_false, Bool.true_eq_false, Bool.false_eq_true, xh, X_in, in_0_100, c2]
          by_cases c4 : 2 ≤ w
          · rw [if_pos c4]
          · rw [if_neg c4]
            cases hB C.1 g <;> rfl
      · simp (disch := omega) only [e_X4_ahead_0, e_X4_ahead_7, e_X4_ahead_19, e_X4_ahead_31, e_X4_ahead_36, e_X4_ahead_44, e_X4_ahead_46, e_X4_ahead_59, e_X4_ahead_67, e_X4_ahead_72, e_X4_ahead_80, e_X4_ahead_87, c_X4_ahead, cond_true, cond_false, Option.bind_some, rI_s, rL_s, rR_s, rV_s, cnd_d, cnd_ne, cnd_eq, bI_d0, bI_t0, ite_not, decide_eq_false_iff_not, decide_eq_true_eq, lg_cmp_ge, lg_cmp_le, lg_cmp_gt, lg_cmp_lt, lg_cmp_eq, okb_1, okb_0, okb_b, eq_self, if_true, if_false, Bool.true_eq_false, Bool.false_eq_true, isO_M, mv, c1, M_in, in_0_100, c2]
    | true =>
      cases c3 : inI 0 2 w with
      | false =>
        refine ask_n (-1) ?_ ?_
        · simp (disch := omega) only [e_X0_ahead_0, e_X0_ahead_7, e_X0_ahead_19, e_X0_ahead_24, e_X0_ahead_32, e_X0_ahead_44, e_X0_ahead_46, e_X0_ahead_66, e_X0_ahead_78, e_X0_ahead_83, e_X0_ahead_95, e_X0_ahead_102, c_X0_ahead, cond_true, cond_false, Option.bind_some, rI_s, rL_s, rR_s, rV_s, cnd_d, cnd_ne, cnd_eq, bI_d0, bI_t0, ite_not, decide_eq_false_iff_not, decide_eq_true_eq, lg_cmp_ge, lg_cmp_le, lg_cmp_gt, lg_cmp_lt, lg_cmp_eq, okb_1, okb_0, okb_b, eq_self, if_true, if_false, Bool.true_eq_false, Bool.false_eq_true, isO_X, xv, c1, X_in, in_0_100, in_0_2, c2, c3]
        · simp (disch := omega) only [e_X4_ahead_0, e_X4_ahead_7, e_X4_ahead_19, e_X4_ahead_31, e_X4_ahead_36, e_X4_ahead_44, e_X4_ahead_46, e_X4_ahead_59, e_X4_ahead_67, e_X4_ahead_72, e_X4_ahead_80, e_X4_ahead_87, c_X4_ahead, cond_true, cond_false, Option.bind_some, rI_s, rL_s, rR_s, rV_s, cnd_d, cnd_ne, cnd_eq, bI_d0, bI_t0, ite_not, decide_eq_false_iff_not, decide_eq_true_eq, lg_cmp_ge, lg_cmp_le, lg_cmp_gt, lg_cmp_lt, lg_cmp_eq, okb_1, okb_0, okb_b, eq_self, if_true, if_false, Bool.true_eq_false, Bool.false_eq_true, isO_M, mv, c1, M_in, in_0_100, in_0_2, c2, c3]
      | true =>
        by_cases c4 : ¬ 2 ≤ w ∧ hB C.1 g = false
        · refine ask_n (-1) ?_ ?_
          · simp (disch := omega) only [e_X0_ahead_0, e_X0_ahead_7, e_X0_ahead_19, e_X0_ahead_24, e_X0_ahead_32, e_X0_ahead_44, e_X0_ahead_46, e_X0_ahead_66, e_X0_ahead_78, e_X0_ahead_83, e_X0_ahead_95, e_X0_ahead_102, c_X0_ahead, cond_true, cond_false, Option.bind_some, rI_s, rL_s, rR_s, rV_s, cnd_d, cnd_ne, cnd_eq, bI_d0, bI_t0, ite_not, decide_eq_false_iff_not, decide_eq_true_eq, lg_cmp_ge, lg_cmp_le, lg_cmp_gt, lg_cmp_lt, lg_cmp_eq, okb_1, okb_0, okb_b, eq_self, if_true, if_false, Bool.true_eq_false, Bool.false_eq_true, isO_X, xv, c1, X_in, in_0_100, in_0_2, c2, c3, c4.1, xh, c4.2]
          · simp (disch := omega) only [e_X4_ahead_0, e_X4_ahead_7, e_X4_ahead_19, e_X4_ahead_31, e_X4_ahead_36, e_X4_ahead_44, e_X4_ahead_46, e_X4_ahead_59, e_X4_ahead_67, e_X4_ahead_72, e_X4_ahead_80, e_X4_ahead_87, c_X4_ahead, cond_true, cond_false, Option.bind_some, rI_s, rL_s, rR_s, rV_s, cnd_d, cnd_ne, cnd_eq, bI_d0, bI_t0, ite_not, decide_eq_false_iff_not, decide_eq_true_eq, lg_cmp_ge, lg_cmp_le, lg_cmp_gt, lg_cmp_lt, lg_cmp_eq, okb_1, okb_0, okb_b, eq_self, if_true, if_false, Bool.true_eq_false, Bool.false_eq_true, isO_M, mv, c1, M_in, in_0_100, in_0_2, c2, c3, c4.1, mh, c4.2]
        · obtain ⟨j, hj, rfl⟩ := inI_0 (n := 100) (by omega) c2
          have hC := Rel_XC hV hRR hF hBr.1
          have hCm := Rel_VC hV.1 hRR hF hBr.2.1
          have hAm := Rel_VA (fo := fo) (F := F) hA hBr.2.2
          have hWw := Rel_WA (fo := fo) (F := F) hW
          obtain ⟨x1, e1, f1, v1, -⟩ := X_keep (k + 998) d x m (CW C fo F none) A h6 hX
          obtain ⟨x2, e2, f2, v2⟩ := X_goesTill (k + 794) d m (CW C fo F none) j (by omega) A x1 hWw (XC_fr hC f1) (Rel_XA v1)
          obtain ⟨m1, g1, q1⟩ := M_keeps (k + 998) d x2 m
          obtain ⟨hC1, hA1⟩ := M_keepC q1 hCm hAm
          obtain ⟨m2, g2, q2, w2⟩ := M_passesAll (k + 991) d x2 (CW C fo F none) j (by omega) A m1 hWw hC1 hA1
          obtain ⟨m3, g4, q4⟩ := M_laysBack (k + 998) d x2 m2
          have hx46 : callR (k + 1000) n_X0_ahead [.ref 0, .int g, .int (nI j), .int w] (P d x m) = evR T_X0_ahead (callR (k + 999)) 46 ([(0, .ref 0), (1, .int g), (2, .int (nI j)), (3, .int w)], [], P d x m) := by
            simp (disch := omega) only [e_X0_ahead_0, e_X0_ahead_7, e_X0_ahead_19, e_X0_ahead_24, e_X0_ahead_32, e_X0_ahead_44, c_X0_ahead, cond_true, cond_false, Option.bind_some, rI_s, rL_s, rR_s, rV_s, cnd_d, cnd_ne, cnd_eq, bI_d0, bI_t0, ite_not, decide_eq_false_iff_not, decide_eq_true_eq, lg_cmp_ge, lg_cmp_le, lg_cmp_gt, lg_cmp_lt, lg_cmp_eq, okb_1, okb_0, okb_b, eq_self, if_true, if_false, Bool.true_eq_false, Bool.false_eq_true, isO_X, xv, c1, X_in, in_0_100, in_0_2, c2, c3, xh]
            by_cases c5 : 2 ≤ w
            · rw [if_pos c5]
            · rw [if_neg c5, if_neg (fun h => c4 ⟨c5, h⟩)]
          have hm46 : callR (k + 1000) n_X4_ahead [.ref 153, .int g, .int (nI j), .int w] (P d x2 m) = evR T_X4_ahead (callR (k + 999)) 46 ([(0, .ref 153), (1, .int g), (2, .int (nI j)), (3, .int w)], [], P d x2 m) := by
            simp (disch := omega) only [e_X4_ahead_0, e_X4_ahead_7, e_X4_ahead_19, e_X4_ahead_31, e_X4_ahead_36, e_X4_ahead_44, c_X4_ahead, cond_true, cond_false, Option.bind_some, rI_s, rL_s, rR_s, rV_s, cnd_d, cnd_ne, cnd_eq, bI_d0, bI_t0, ite_not, decide_eq_false_iff_not, decide_eq_true_eq, lg_cmp_ge, lg_cmp_le, lg_cmp_gt, lg_cmp_lt, lg_cmp_eq, okb_1, okb_0, okb_b, eq_self, if_true, if_false, Bool.true_eq_false, Bool.false_eq_true, isO_M, mv, c1, M_in, in_0_100, in_0_2, c2, c3, mh]
            by_cases c5 : 2 ≤ w
            · rw [if_pos c5]
            · rw [if_neg c5, if_neg (fun h => c4 ⟨c5, h⟩)]
          have hB0 := M_back q1 q2 q4
          have hS0 := SimX_trans (FX_Sim f1) (FX_Sim f2)
          have r12 : rdR (P d x2 m) 12 2 1 = some 14 := rp_1 d x2 m 1 (by omega)
          have r10 : rdR (P d x2 m) 12 2 0 = some 13 := rp_0 d x2 m 1 (by omega)
          have r16 : rdI (P d x2 m) 12 2 6 = some (nI ((itA (CW C fo F none) j A).2.2 0)) := by rw [← v2.1.2.2.2.1]; exact rp_6 d x2 m 1 (by omega)
          by_cases w0 : w = 0
          · subst w0
            have hg : hB C.1 g = true := by
              cases h : hB C.1 g with
              | true => rfl
              | false => exact absurd ⟨by decide, h⟩ c4
            obtain ⟨q, hq, rfl⟩ := hB_of (by omega) hg
            have l1 : ldI (P d x2 m) 14 0 (nI q) = some ((itA (CW C fo F none) j A).1 1 q) := by rw [← (v2.1.1 q hq).2.1]; exact lp_1 d x2 m 1 (by omega) q (by omega)
            refine ⟨(itA (CW C fo F none) j A).1 1 q, x2, ?_, hS0, m3, ?_, hB0⟩
            · rw [hx46]
              simp (disch := omega) only [e_X0_ahead_46, e_X0_ahead_66, e_X0_ahead_102, cond_true, cond_false, Option.bind_some, rI_s, rL_s, rR_s, rV_s, cnd_d, cnd_ne, cnd_eq, bI_d0, bI_t0, ite_not, decide_eq_false_iff_not, decide_eq_true_eq, lg_cmp_ge, lg_cmp_le, lg_cmp_gt, lg_cmp_lt, lg_cmp_eq, okb_1, okb_0, okb_b, eq_self, if_true, if_false, Bool.true_eq_false, Bool.false_eq_true, rx_1, rx_2, e1, e2, r12, l1]
            · rw [hm46]
              simp (disch := omega) only [e_X4_ahead_46, e_X4_ahead_59, e_X4_ahead_87, cond_true, cond_false, Option.bind_some, rI_s, rL_s, rR_s, rV_s, cnd_d, cnd_ne, cnd_eq, bI_d0, bI_t0, ite_not, decide_eq_false_iff_not, decide_eq_true_eq, lg_cmp_ge, lg_cmp_le, lg_cmp_gt, lg_cmp_lt, lg_cmp_eq, okb_1, okb_0, okb_b, eq_self, if_true, if_false, Bool.true_eq_false, Bool.false_eq_true, g1, g2, g4, M_heatOf, (w2.1 q hq).2.1]
          · by_cases w1 : w = 1
            · subst w1
              have hg : hB C.1 g = true := by
                cases h : hB C.1 g with
                | true => rfl
                | false => exact absurd ⟨by decide, h⟩ c4
              obtain ⟨q, hq, rfl⟩ := hB_of (by omega) hg
              have l1 : ldI (P d x2 m) 13 0 (nI q) = some ((itA (CW C fo F none) j A).1 0 q) := by rw [← (v2.1.1 q hq).1]; exact lp_0 d x2 m 1 (by omega) q (by omega)
              refine ⟨(itA (CW C fo F none) j A).1 0 q, x2, ?_, hS0, m3, ?_, hB0⟩
              · rw [hx46]
                simp (disch := omega) only [e_X0_ahead_46, e_X0_ahead_78, e_X0_ahead_83, e_X0_ahead_102, cond_true, cond_false, Option.bind_some, rI_s, rL_s, rR_s, rV_s, cnd_d, cnd_ne, cnd_eq, bI_d0, bI_t0, ite_not, decide_eq_false_iff_not, decide_eq_true_eq, lg_cmp_ge, lg_cmp_le, lg_cmp_gt, lg_cmp_lt, lg_cmp_eq, okb_1, okb_0, okb_b, eq_self, if_true, if_false, Bool.true_eq_false, Bool.false_eq_true, rx_1, rx_2, e1, e2, r10, l1, w0]
              · rw [hm46]
                simp (disch := omega) only [e_X4_ahead_46, e_X4_ahead_67, e_X4_ahead_72, e_X4_ahead_87, cond_true, cond_false, Option.bind_some, rI_s, rL_s, rR_s, rV_s, cnd_d, cnd_ne, cnd_eq, bI_d0, bI_t0, ite_not, decide_eq_false_iff_not, decide_eq_true_eq, lg_cmp_ge, lg_cmp_le, lg_cmp_gt, lg_cmp_lt, lg_cmp_eq, okb_1, okb_0, okb_b, eq_self, if_true, if_false, Bool.true_eq_false, Bool.false_eq_true, g1, g2, g4, M_worthOf, (w2.1 q hq).1, w0]
            · refine ⟨nI ((itA (CW C fo F none) j A).2.2 0), x2, ?_, hS0, m3, ?_, hB0⟩
              · rw [hx46]
                simp (disch := omega) only [e_X0_ahead_46, e_X0_ahead_78, e_X0_ahead_95, e_X0_ahead_102, cond_true, cond_false, Option.bind_some, rI_s, rL_s, rR_s, rV_s, cnd_d, cnd_ne, cnd_eq, bI_d0, bI_t0, ite_not, decide_eq_false_iff_not, decide_eq_true_eq, lg_cmp_ge, lg_cmp_le, lg_cmp_gt, lg_cmp_lt, lg_cmp_eq, okb_1, okb_0, okb_b, eq_self, if_true, if_false, Bool.true_eq_false, Bool.false_eq_true, rx_1, rx_2, e1, e2, r16, w0, w1]
              · rw [hm46]
                simp (disch := omega) only [e_X4_ahead_46, e_X4_ahead_67, e_X4_ahead_80, e_X4_ahead_87, cond_true, cond_false, Option.bind_some, rI_s, rL_s, rR_s, rV_s, cnd_d, cnd_ne, cnd_eq, bI_d0, bI_t0, ite_not, decide_eq_false_iff_not, decide_eq_true_eq, lg_cmp_ge, lg_cmp_le, lg_cmp_gt, lg_cmp_lt, lg_cmp_eq, okb_1, okb_0, okb_b, eq_self, if_true, if_false, Bool.true_eq_false, Bool.false_eq_true, g1, g2, g4, rm_21, li_11, lm_10, w2.2.2.1, w0, w1]
  · refine ask_n (-1) ?_ ?_
    · simp (disch := omega) only [c_X0_ahead, e_X0_ahead_0, e_X0_ahead_44, cond_true, cond_false, Option.bind_some, rI_s, rL_s, rR_s, rV_s, cnd_d, cnd_ne, cnd_eq, bI_d0, bI_t0, ite_not, decide_eq_false_iff_not, decide_eq_true_eq, lg_cmp_ge, lg_cmp_le, lg_cmp_gt, lg_cmp_lt, lg_cmp_eq, okb_1, okb_0, okb_b, eq_self, if_true, if_false, Bool.true_eq_false, Bool.false_eq_true, isO_X, xv, c1]
    · simp (disch := omega) only [c_X4_ahead, e_X4_ahead_0, e_X4_ahead_44, cond_true, cond_false, Option.bind_some, rI_s, rL_s, rR_s, rV_s, cnd_d, cnd_ne, cnd_eq, bI_d0, bI_t0, ite_not, decide_eq_false_iff_not, decide_eq_true_eq, lg_cmp_ge, lg_cmp_le, lg_cmp_gt, lg_cmp_lt, lg_cmp_eq, okb_1, okb_0, okb_b, eq_self, if_true, if_false, Bool.true_eq_false, Bool.false_eq_true, isO_M, mv, c1]
