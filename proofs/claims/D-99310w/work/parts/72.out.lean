def outA (C : AC) : Nat → AA → Option Int32
  | 0, _ => none
  | r + 1, A => if orI (hotB (A.1 1)) C.1 = 0 then some (A.2.1 1) else outA C r (hourA C A)
def outV (o : Option Int32) : Int32 := match o with
  | none => -2
  | some q => q
theorem X_outL (k : Nat) (d : AH) (m : MS) (C : AC) (h6 : C.1 ≤ 6) : ∀ (r i : Nat) (A : AA) (x : XS), i + r = 200 → WA C A → XC d C x → XA C A x 1 → ∃ x', evR T_X0_out (callR (k + 204)) 22 ([(0, .ref 0), (1, .int (nI i))], [], P d x m) = some (.inl (some (.int (outV (outA C r A)))), P d x' m) ∧ FX 1 x x'
  | 0, i, A, x, hi, hW, hC, hA => by
    refine ⟨x, ?_, FX_refl 1 x⟩
    rw [e_X0_out_22]
    simp (disch := omega) only [e_X0_out_62, cond_true, cond_false, Option.bind_some, rI_s, rL_s, rR_s, rV_s, cnd_d, cnd_ne, cnd_eq, bI_d0, bI_t0, ite_not, decide_eq_false_iff_not, decide_eq_true_eq, lg_cmp_ge, lg_cmp_le, lg_cmp_gt, lg_cmp_lt, lg_cmp_eq, okb_1, okb_0, okb_b, eq_self, if_true, if_false, Bool.true_eq_false, Bool.false_eq_true, li_2, li_3, li_4, li_5, li_6, li_7, li_8, li_9, li_10, li_11, li_12, li_13, li_14, li_15, li_16, li_18, li_20, li_22, li_24, li_25, li_26, li_28, li_32, li_38, li_40, li_43, li_44, li_45, li_46, li_47, li_48, li_49, li_50, li_54, li_56, li_59, li_60, li_61, li_64, li_91, li_93, li_99, li_100, li_111, li_112, li_117, li_122, li_123, li_131, li_132, li_200, li_255, li_256, li_400, li_560, li_9999, li_10000, li_99999, li_65536, pk_mul, nI_add, nI_1, neg_lt0, neg_le0, nI_nn, nI_nlt0, show i = 200 by omega, le_rT]
    rfl
  | r + 1, i, A, x, hi, hW, hC, hA => by
    have ef : callR (k + 204) n_X2_fires [.ref 12] (P d x m) = _ := X_fires0 (k + 203) d x m 1 (by omega) C A h6 hA.1
    unfold outA
    by_cases c : orI (hotB (A.1 1)) C.1 = 0
    · refine ⟨x, ?_, FX_refl 1 x⟩
      have r9 : rdI (P d x m) 12 2 9 = some (A.2.1 1) := by rw [← hA.1.2.2.1.2.1]; exact rp_9 d x m 1 (by omega)
      rw [if_pos c, e_X0_out_22]
      simp (disch := omega) only [e_X0_out_29, e_X0_out_39, cond_true, cond_false, Option.bind_some, rI_s, rL_s, rR_s, rV_s, cnd_d, cnd_ne, cnd_eq, bI_d0, bI_t0, ite_not, decide_eq_false_iff_not, decide_eq_true_eq, lg_cmp_ge, lg_cmp_le, lg_cmp_gt, lg_cmp_lt, lg_cmp_eq, okb_1, okb_0, okb_b, eq_self, if_true, if_false, Bool.true_eq_false, Bool.false_eq_true, li_2, li_3, li_4, li_5, li_6, li_7, li_8, li_9, li_10, li_11, li_12, li_13, li_14, li_15, li_16, li_18, li_20, li_22, li_24, li_25, li_26, li_28, li_32, li_38, li_40, li_43, li_44, li_45, li_46, li_47, li_48, li_49, li_50, li_54, li_56, li_59, li_60, li_61, li_64, li_91, li_93, li_99, li_100, li_111, li_112, li_117, li_122, li_123, li_131, li_132, li_200, li_255, li_256, li_400, li_560, li_9999, li_10000, li_99999, li_65536, pk_mul, nI_add, nI_1, neg_lt0, neg_le0, nI_nn, nI_nlt0, nI_leP, if_neg (show ¬ 200 ≤ i by omega), rx_2, ef, c, r9, outV]
    · obtain ⟨x1, e1, f1, c1, v1⟩ := X_hour k d x m 1 (by omega) C A hW hC hA
      have e1' : callR (k + 204) n_X0_goesOn [.ref 0, .ref 12] (P d x m) = _ := e1
      obtain ⟨x2, e2, f2⟩ := X_outL k d m C h6 r (i + 1) (hourA C A) x1 (by omega) (WA_hour hW) (XC_fr hC f1) v1
      refine ⟨x2, ?_, FX_trans f1 f2⟩
      rw [if_neg c, ← e2, e_X0_out_22]
      simp (disch := omega) only [e_X0_out_29, e_X0_out_47, cond_true, cond_false, Option.bind_some, rI_s, rL_s, rR_s, rV_s, cnd_d, cnd_ne, cnd_eq, bI_d0, bI_t0, ite_not, decide_eq_false_iff_not, decide_eq_true_eq, lg_cmp_ge, lg_cmp_le, lg_cmp_gt, lg_cmp_lt, lg_cmp_eq, okb_1, okb_0, okb_b, eq_self, if_true, if_false, Bool.true_eq_false, Bool.false_eq_true, li_2, li_3, li_4, li_5, li_6, li_7, li_8, li_9, li_10, li_11, li_12, li_13, li_14, li_15, li_16, li_18, li_20, li_22, li_24, li_25, li_26, li_28, li_32, li_38, li_40, li_43, li_44, li_45, li_46, li_47, li_48, li_49, li_50, li_54, li_56, li_59, li_60, li_61, li_64, li_91, li_93, li_99, li_100, li_111, li_112, li_117, li_122, li_123, li_131, li_132, li_200, li_255, li_256, li_400, li_560, li_9999, li_10000, li_99999, li_65536, pk_mul, nI_add, nI_1, neg_lt0, neg_le0, nI_nn, nI_nlt0, nI_leP, if_neg (show ¬ 200 ≤ i by omega), rx_2, ef, c, e1']
theorem M_outL (k : Nat) (d : AH) (x : XS) (C : AC) (h6 : C.1 ≤ 6) : ∀ (r i : Nat) (A : AA) (m : MS), i + r = 200 → WA C A → (∃ h, h < 2000 ∧ A.2.1 1 = nI (h + i)) → VC C m → VA C A m → ∃ m', evR T_X4_out (callR (k + 7)) 18 ([(0, .ref 153), (1, .int (-2)), (2, .int (nI i))], [], P d x m) = evR T_X4_out (callR (k + 7)) 55 ([(0, .ref 153), (1, .int (outV (outA C r A)))], [], P d x m') ∧ Fr m m'
  | 0, i, A, m, hi, hW, hh, hC, hA => by
    refine ⟨m, ?_, Fr_refl m⟩
    rw [e_X4_out_18]
    simp (disch := omega) only [cond_true, cond_false, Option.bind_some, rI_s, rL_s, rR_s, rV_s, cnd_d, cnd_ne, cnd_eq, bI_d0, bI_t0, ite_not, decide_eq_false_iff_not, decide_eq_true_eq, lg_cmp_ge, lg_cmp_le, lg_cmp_gt, lg_cmp_lt, lg_cmp_eq, okb_1, okb_0, okb_b, eq_self, if_true, if_false, Bool.true_eq_false, Bool.false_eq_true, li_2, li_3, li_4, li_5, li_6, li_7, li_8, li_9, li_10, li_11, li_12, li_13, li_14, li_15, li_16, li_18, li_20, li_22, li_24, li_25, li_26, li_28, li_32, li_38, li_40, li_43, li_44, li_45, li_46, li_47, li_48, li_49, li_50, li_54, li_56, li_59, li_60, li_61, li_64, li_91, li_93, li_99, li_100, li_111, li_112, li_117, li_122, li_123, li_131, li_132, li_200, li_255, li_256, li_400, li_560, li_9999, li_10000, li_99999, li_65536, pk_mul, nI_add, nI_1, neg_lt0, neg_le0, nI_nn, nI_nlt0, show i = 200 by omega, le_rT]
    rfl
  | r + 1, i, A, m, hi, hW, hh, hC, hA => by
    obtain ⟨m1, e1, f1, c1, v1⟩ := M_passes k d x m C A hW hC hA
    obtain ⟨h, hh1, hh2⟩ := hh
    have ef : callR (k + 7) n_X4_fires [.ref 153] (P d x m) = some (.inl (some (.int (orI (hotB (A.1 1)) C.1))), P d x m) := by
      rw [M_fires (k + 5) d x m C.1 h6 hC.1.1, orI_c fun i hi => hotB_c (hA.1 i hi).2.1]
    unfold outA
    have hl : m.2.1 10 10 = A.2.1 1 := hA.2.1.2.1
    by_cases c : orI (hotB (A.1 1)) C.1 = 0
    · refine ⟨m1, ?_, f1⟩
      have h0 : 0 ≤ A.2.1 1 := by rw [hh2]; exact nI_pos' (by omega)
      rw [if_pos c, e_X4_out_18]
      simp (disch := omega) only [e_X4_out_25, e_X4_out_29, e_X4_out_36, e_X4_out_44, cond_true, cond_false, Option.bind_some, rI_s, rL_s, rR_s, rV_s, cnd_d, cnd_ne, cnd_eq, bI_d0, bI_t0, ite_not, decide_eq_false_iff_not, decide_eq_true_eq, lg_cmp_ge, lg_cmp_le, lg_cmp_gt, lg_cmp_lt, lg_cmp_eq, okb_1, okb_0, okb_b, eq_self, if_true, if_false, Bool.true_eq_false, Bool.false_eq_true, li_3, li_4, li_5, li_6, li_7, li_8, li_9, li_10, li_11, li_12, li_13, li_14, li_15, li_16, li_18, li_20, li_22, li_24, li_25, li_26, li_28, li_32, li_38, li_40, li_43, li_44, li_45, li_46, li_47, li_48, li_49, li_50, li_54, li_56, li_59, li_60, li_61, li_64, li_91, li_93, li_99, li_100, li_111, li_112, li_117, li_122, li_123, li_131, li_132, li_200, li_255, li_256, li_400, li_560, li_9999, li_10000, li_99999, li_65536, pk_mul, nI_add, nI_1, neg_lt0, neg_le0, nI_nn, nI_nlt0, nI_leP, if_neg (show ¬ 200 ≤ i by omega), show ¬ (0 : Int32) ≤ -2 by decide, ef, c, rm_21, lm_10, hl, e1]
      rw [e_X4_out_18]
      simp (disch := omega) only [e_X4_out_25, cond_true, cond_false, Option.bind_some, rI_s, rL_s, rR_s, rV_s, cnd_d, cnd_ne, cnd_eq, bI_d0, bI_t0, ite_not, decide_eq_false_iff_not, decide_eq_true_eq, lg_cmp_ge, lg_cmp_le, lg_cmp_gt, lg_cmp_lt, lg_cmp_eq, okb_1, okb_0, okb_b, eq_self, if_true, if_false, Bool.true_eq_false, Bool.false_eq_true, li_3, li_4, li_5, li_6, li_7, li_8, li_9, li_10, li_11, li_12, li_13, li_14, li_15, li_16, li_18, li_20, li_22, li_24, li_25, li_26, li_28, li_32, li_38, li_40, li_43, li_44, li_45, li_46, li_47, li_48, li_49, li_50, li_54, li_56, li_59, li_60, li_61, li_64, li_91, li_93, li_99, li_100, li_111, li_112, li_117, li_122, li_123, li_131, li_132, li_200, li_255, li_256, li_400, li_560, li_9999, li_10000, li_99999, li_65536, pk_mul, nI_add, nI_1, neg_lt0, neg_le0, nI_nn, nI_nlt0, nI_leP, h0, outV]
      split <;> rfl
    · obtain ⟨m2, e2, f2⟩ := M_outL k d x C h6 r (i + 1) (hourA C A) m1 (by omega) (WA_hour hW) ⟨h, hh1, by rw [hour_1, hh2, nI_1, Nat.add_assoc]⟩ (VC_fr hC f1) v1
      refine ⟨m2, ?_, Fr_trans f1 f2⟩
      rw [if_neg c, ← e2, e_X4_out_18]
      simp (disch := omega) only [e_X4_out_25, e_X4_out_29, e_X4_out_44, cond_true, cond_false, Option.bind_some, rI_s, rL_s, rR_s, rV_s, cnd_d, cnd_ne, cnd_eq, bI_d0, bI_t0, ite_not, decide_eq_false_iff_not, decide_eq_true_eq, lg_cmp_ge, lg_cmp_le, lg_cmp_gt, lg_cmp_lt, lg_cmp_eq, okb_1, okb_0, okb_b, eq_self, if_true, if_false, Bool.true_eq_false, Bool.false_eq_true, li_3, li_4, li_5, li_6, li_7, li_8, li_9, li_10, li_11, li_12, li_13, li_14, li_15, li_16, li_18, li_20, li_22, li_24, li_25, li_26, li_28, li_32, li_38, li_40, li_43, li_44, li_45, li_46, li_47, li_48, li_49, li_50, li_54, li_56, li_59, li_60, li_61, li_64, li_91, li_93, li_99, li_100, li_111, li_112, li_117, li_122, li_123, li_131, li_132, li_200, li_255, li_256, li_400, li_560, li_9999, li_10000, li_99999, li_65536, pk_mul, nI_add, nI_1, neg_lt0, neg_le0, nI_nn, nI_nlt0, nI_leP, if_neg (show ¬ 200 ≤ i by omega), show ¬ (0 : Int32) ≤ -2 by decide, ef, c, e1]
theorem op_out : AskOK n_X0_out n_X4_out [] := by
  intro Z d x m hR k
  obtain ⟨C, A, n, u, a, t, nr, F, fo, hP, hS⟩ := Rel_to hR
  obtain ⟨hZ, hV, hN, hPR, hT, hRR, hF, hD, hBr, hI⟩ := id hP
  have hvp := (hV.2.1 d (Ext_refl Z d)).1
  have h6 := hV.1.1.2
  have hfl := flag_eq hV
  have xv := X_isValley (k + 998) d x m C (hvp.1 x m)
  have mv : ∀ x, _ := fun x => M_isValley (k + 998) d x m
  rw [hfl] at mv
  by_cases c1 : 0 < C.2.2.2.1
  · have hC := Rel_XC hV hRR hF hBr.1
    have hCm := Rel_VC hV.1 hRR hF hBr.2.1
    have hAm := Rel_VA (fo := fo) (F := F) hS.1 hBr.2.2
    have hWw := Rel_WA (fo := fo) (F := F) hS.2.2
    obtain ⟨hr, hr9, er⟩ := hS.2.2.2.2.2.2.2
    obtain ⟨x1, e1, f1, v1, -⟩ := X_keep (k + 998) d x m (CW C fo F none) A h6 hS.2.1
    obtain ⟨x2, e2, f2⟩ := X_outL (k + 795) d m (CW C fo F none) h6 200 0 A x1 (by omega) hWw (XC_fr hC f1) (Rel_XA v1)
    obtain ⟨m1, g1, q1⟩ := M_keeps (k + 998) d x2 m
    obtain ⟨hC1, hA1⟩ := M_keepC q1 hCm hAm
    obtain ⟨m2, g2, q2⟩ := M_outL (k + 992) d x2 (CW C fo F none) h6 200 0 A m1 (by omega) hWw ⟨hr, by omega, er⟩ hC1 hA1
    obtain ⟨m3, g4, q4⟩ := M_laysBack (k + 998) d x2 m2
    refine ⟨outV (outA (CW C fo F none) 200 A), x2, ?_, SimX_trans (FX_Sim f1) (FX_Sim f2), m3, ?_, M_back q1 q2 q4⟩
    · rw [nI_0] at e2
      simp (disch := omega) only [c_X0_out, e_X0_out_0, e_X0_out_9, cond_true, cond_false, Option.bind_some, rI_s, rL_s, rR_s, rV_s, cnd_d, cnd_ne, cnd_eq, bI_d0, bI_t0, ite_not, decide_eq_false_iff_not, decide_eq_true_eq, lg_cmp_ge, lg_cmp_le, lg_cmp_gt, lg_cmp_lt, lg_cmp_eq, okb_1, okb_0, okb_b, eq_self, if_true, if_false, Bool.true_eq_false, Bool.false_eq_true, isO_X, xv, c1, rx_1, rx_2, e1, e2]
    · rw [nI_0] at g2
      simp (disch := omega) only [c_X4_out, e_X4_out_0, e_X4_out_9, e_X4_out_55, cond_true, cond_false, Option.bind_some, rI_s, rL_s, rR_s, rV_s, cnd_d, cnd_ne, cnd_eq, bI_d0, bI_t0, ite_not, decide_eq_false_iff_not, decide_eq_true_eq, lg_cmp_ge, lg_cmp_le, lg_cmp_gt, lg_cmp_lt, lg_cmp_eq, okb_1, okb_0, okb_b, eq_self, if_true, if_false, Bool.true_eq_false, Bool.false_eq_true, isO_M, mv, c1, g1, g2, g4]
  · refine ask_n (-1) ?_ ?_
    · simp (disch := omega) only [c_X0_out, e_X0_out_0, e_X0_out_7, cond_true, cond_false, Option.bind_some, rI_s, rL_s, rR_s, rV_s, cnd_d, cnd_ne, cnd_eq, bI_d0, bI_t0, ite_not, decide_eq_false_iff_not, decide_eq_true_eq, lg_cmp_ge, lg_cmp_le, lg_cmp_gt, lg_cmp_lt, lg_cmp_eq, okb_1, okb_0, okb_b, eq_self, if_true, if_false, Bool.true_eq_false, Bool.false_eq_true, isO_X, xv, c1]
    · simp (disch := omega) only [c_X4_out, e_X4_out_0, e_X4_out_7, cond_true, cond_false, Option.bind_some, rI_s, rL_s, rR_s, rV_s, cnd_d, cnd_ne, cnd_eq, bI_d0, bI_t0, ite_not, decide_eq_false_iff_not, decide_eq_true_eq, lg_cmp_ge, lg_cmp_le, lg_cmp_gt, lg_cmp_lt, lg_cmp_eq, okb_1, okb_0, okb_b, eq_self, if_true, if_false, Bool.true_eq_false, Bool.false_eq_true, isO_M, mv, c1]
