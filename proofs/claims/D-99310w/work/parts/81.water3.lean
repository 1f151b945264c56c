theorem X_waterL (k : Nat) (d : AH) (m : MS) (C : AC) (fo : Option Nat) (F : Nat → (Nat → Int64) → Int64) (n : Nat) (hn : n ≤ 60) (h6 : C.1 ≤ 6) (A : AA) (hW : WA (CW C fo F none) A) (x0 : XS) (hC : XC d (CW C fo F none) x0) (hX : VX C A (x0.2.2.2.1 0)) : ∀ (r i : Nat) (x : XS), i + r = 10 → SimX x0 x → ∃ x', evR T_X0_water (callR (k + 205)) 23 ([(0, .ref 0), (1, .int (nI n)), (2, .int (nI i))], [], P d x m) = some (.inl (some (.int (heardV (waterA (CW C fo F none) A n r i)))), P d x' m) ∧ SimX x0 x'
  | 0, i, x, hi, hs => by
    refine ⟨x, ?_, hs⟩
    rw [e_X0_water_23]
    simp (disch := omega) only [e_X0_water_68, cond_true, cond_false, Option.bind_some, rI_s, rL_s, rR_s, rV_s, cnd_d, cnd_ne, cnd_eq, bI_d0, bI_t0, ite_not, decide_eq_false_iff_not, decide_eq_true_eq, lg_cmp_ge, lg_cmp_le, lg_cmp_gt, lg_cmp_lt, lg_cmp_eq, okb_1, okb_0, okb_b, eq_self, if_true, if_false, Bool.true_eq_false, Bool.false_eq_true, li_2, li_3, li_4, li_5, li_6, li_7, li_8, li_9, li_10, li_11, li_12, li_13, li_14, li_15, li_16, li_18, li_20, li_22, li_24, li_25, li_26, li_28, li_32, li_38, li_40, li_43, li_44, li_45, li_46, li_47, li_48, li_49, li_50, li_54, li_56, li_59, li_60, li_61, li_64, li_91, li_93, li_99, li_100, li_111, li_112, li_117, li_122, li_123, li_131, li_132, li_200, li_255, li_256, li_400, li_560, li_9999, li_10000, li_99999, li_65536, pk_mul, nI_add, nI_1, neg_lt0, neg_le0, nI_nn, nI_nlt0, nI_ltP, show i = 10 by omega, show 9 < 10 by omega]
    rfl
  | r + 1, i, x, hi, hs => by
    obtain ⟨x1, e1, f1, v1, -⟩ := X_keep (k + 204) d x m C A h6 (by rw [hs.2.2.1 0 (by omega)]; exact hX)
    have hs1 := SimX_trans hs (FX_Sim f1)
    have f2 := xS_FX x1 1 (sF (x1.2.2.2.1 1) 5 (nI i))
    have hs2 := SimX_trans hs1 (FX_Sim f2)
    have hC2 := SimX_XC hs2 hC
    obtain ⟨x3, e3, f3, v3⟩ := X_goesTill k d m (CW C fo F none) n (by omega) (wetA A (nI i)) (xS x1 1 (sF (x1.2.2.2.1 1) 5 (nI i))) (WA_wet hW _ (nI_pos' (by omega))) hC2 (Rel_XA (by rw [xS_s]; exact VX_wet v1 _))
    have hs3 := SimX_trans hs2 (FX_Sim f3)
    have hC3 := SimX_XC hs3 hC
    have w5 : wrF (P d x1 m) 12 2 5 (.int (nI i)) = some (P d (xS x1 1 (sF (x1.2.2.2.1 1) 5 (nI i))) m) := wp_5 d x1 m 1 (by omega) _
    have en := X_nla (k + 202) d x3 m (CW C fo F none) (hC3.1.1 x3 m) h6
    have eb : nlaB ((x3.2.2.2.1 0).1 0) ((x3.2.2.2.1 1).1 0) C.1 = nlaB (A.1 0) ((itA (CW C fo F none) n (wetA A (nI i))).1 0) C.1 := nlaB_c _ fun h hh => ⟨by rw [hs3.2.2.1 0 (by omega)]; exact (hX.1 h hh).1, (v3.1.1 h hh).1⟩
    have en' : callR (k + 205) n_X0_doesNobodyLoseAll [.ref 0] (P d x3 m) = some (.inl (some (.int (bI (nlaB (A.1 0) ((itA (CW C fo F none) n (wetA A (nI i))).1 0) C.1)))), P d x3 m) := by rw [← eb]; exact en
    have hlt : ((9 : Int32) < nI i) = False := eq_false (by rw [show (9 : Int32) = nI 9 from rfl, nI_ltP (by omega) (by omega)]; omega)
    unfold waterA
    cases c : nlaB (A.1 0) ((itA (CW C fo F none) n (wetA A (nI i))).1 0) C.1 with
    | true =>
      rw [c] at en'
      refine ⟨x3, ?_, hs3⟩
      rw [if_pos (by exact c), e_X0_water_23]
      simp (disch := omega) only [e_X0_water_29, e_X0_water_60, cond_true, cond_false, Option.bind_some, rI_s, rL_s, rR_s, rV_s, cnd_d, cnd_ne, cnd_eq, bI_d0, bI_t0, ite_not, decide_eq_false_iff_not, decide_eq_true_eq, lg_cmp_ge, lg_cmp_le, lg_cmp_gt, lg_cmp_lt, lg_cmp_eq, okb_1, okb_0, okb_b, eq_self, if_true, if_false, Bool.true_eq_false, Bool.false_eq_true, li_2, li_3, li_4, li_5, li_6, li_7, li_8, li_10, li_11, li_12, li_13, li_14, li_15, li_16, li_18, li_20, li_22, li_24, li_25, li_26, li_28, li_32, li_38, li_40, li_43, li_44, li_45, li_46, li_47, li_48, li_49, li_50, li_54, li_56, li_59, li_60, li_61, li_64, li_91, li_93, li_99, li_100, li_111, li_112, li_117, li_122, li_123, li_131, li_132, li_200, li_255, li_256, li_400, li_560, li_9999, li_10000, li_99999, li_65536, pk_mul, nI_add, nI_1, neg_lt0, neg_le0, nI_nn, nI_nlt0, hlt, rx_1, rx_2, e1, w5, e3, en']
      rfl
    | false =>
      rw [c] at en'
      obtain ⟨x4, e4, hs4⟩ := X_waterL k d m C fo F n hn h6 A hW x0 hC hX r (i + 1) x3 (by omega) hs3
      refine ⟨x4, ?_, hs4⟩
      rw [if_neg (by rw [show nlaB (A.1 0) ((itA (CW C fo F none) n (wetA A (nI i))).1 0) (CW C fo F none).1 = false from c]; decide), ← e4, e_X0_water_23]
      simp (disch := omega) only [e_X0_water_29, e_X0_water_62, cond_true, cond_false, Option.bind_some, rI_s, rL_s, rR_s, rV_s, cnd_d, cnd_ne, cnd_eq, bI_d0, bI_t0, ite_not, decide_eq_false_iff_not, decide_eq_true_eq, lg_cmp_ge, lg_cmp_le, lg_cmp_gt, lg_cmp_lt, lg_cmp_eq, okb_1, okb_0, okb_b, eq_self, if_true, if_false, Bool.true_eq_false, Bool.false_eq_true, li_2, li_3, li_4, li_5, li_6, li_7, li_8, li_10, li_11, li_12, li_13, li_14, li_15, li_16, li_18, li_20, li_22, li_24, li_25, li_26, li_28, li_32, li_38, li_40, li_43, li_44, li_45, li_46, li_47, li_48, li_49, li_50, li_54, li_56, li_59, li_60, li_61, li_64, li_91, li_93, li_99, li_100, li_111, li_112, li_117, li_122, li_123, li_131, li_132, li_200, li_255, li_256, li_400, li_560, li_9999, li_10000, li_99999, li_65536, pk_mul, nI_add, nI_1, neg_lt0, neg_le0, nI_nn, nI_nlt0, hlt, rx_1, rx_2, e1, w5, e3, en']
