theorem M_waterL (k : Nat) (d : AH) (x : XS) (C : AC) (fo : Option Nat) (F : Nat → (Nat → Int64) → Int64) (n : Nat) (hn : n ≤ 60) (h6 : C.1 ≤ 6) (A : AA) (hW : WA (CW C fo F none) A) (hB9 : ∀ h, h < C.1 → 0 ≤ A.1 0 h ∧ A.1 0 h ≤ 99) (m0 : MS) (hC : VC (CW C fo F none) m0) (hA : VA (CW C fo F none) A m0) (w : Int32) : ∀ (r i : Nat) (m : MS), i + r = 10 → KW m0 m → (∀ j, j ≠ 1 → m.2.1 10 j = m0.2.1 10 j) → ∃ m', evR T_X4_water (callR (k + 8)) 44 ([(0, .ref 153), (1, .int (nI n)), (2, .int w), (3, .int (orI (hotB (A.1 0)) C.1)), (4, .int (-2)), (5, .int (nI i))], [], P d x m) = evR T_X4_water (callR (k + 8)) 91 ([(0, .ref 153), (2, .int w), (4, .int (heardV (waterA (CW C fo F none) A n r i)))], [], P d x m') ∧ KW m0 m' ∧ (∀ j, j ≠ 1 → m'.2.1 10 j = m0.2.1 10 j)
  | 0, i, m, hi, hk, he => by
    refine ⟨m, ?_, hk, he⟩
    rw [e_X4_water_44]
    simp (disch := omega) only [cond_true, cond_false, Option.bind_some, rI_s, rL_s, rR_s, rV_s, cnd_d, cnd_ne, cnd_eq, bI_d0, bI_t0, ite_not, decide_eq_false_iff_not, decide_eq_true_eq, lg_cmp_ge, lg_cmp_le, lg_cmp_gt, lg_cmp_lt, lg_cmp_eq, okb_1, okb_0, okb_b, eq_self, if_true, if_false, Bool.true_eq_false, Bool.false_eq_true, li_2, li_3, li_4, li_5, li_6, li_7, li_8, li_9, li_10, li_11, li_12, li_13, li_14, li_15, li_16, li_18, li_20, li_22, li_24, li_25, li_26, li_28, li_32, li_38, li_40, li_43, li_44, li_45, li_46, li_47, li_48, li_49, li_50, li_54, li_56, li_59, li_60, li_61, li_64, li_91, li_93, li_99, li_100, li_111, li_112, li_117, li_122, li_123, li_131, li_132, li_200, li_255, li_256, li_400, li_560, li_9999, li_10000, li_99999, li_65536, pk_mul, nI_add, nI_1, neg_lt0, neg_le0, nI_nn, nI_nlt0, nI_ltP, show i = 10 by omega, show 9 < 10 by omega]
    rfl
  | r + 1, i, m, hi, hk, he => by
    have hA1 := VA_wet hk he hA (nI i)
    have hk1 := KW_set hk (nI i)
    have hWw := WA_wet hW (nI i) (nI_pos' (n := i) (by omega))
    obtain ⟨m1, e1, f1, v1⟩ := M_passesAll k d x (CW C fo F none) n (by omega) (wetA A (nI i)) _ hWw (KW_VC hk1 hC) hA1
    have k1 := KW_fr hk1 f1
    have e2 := M_withWorth (k + 6) d x m1 C.1 h6 (KW_VC k1 hC).1.1
    obtain ⟨m2, e3, q3⟩ := M_laysBack (k + 7) d x m1
    obtain ⟨k2, he2⟩ := KW_back k1 q3
    have hgo : orI (hotB fun h => m1.2.1 10 (14 + 4 * h)) C.1 = orI (hotB ((itA (CW C fo F none) n (wetA A (nI i))).1 0)) C.1 := orI_c fun i hi => hotB_c (v1.1 i hi).1
    have hwn := worth_nla (f := A.1 0) (g := (itA (CW C fo F none) n (wetA A (nI i))).1 0) C.1 h6 (fun h hh => by
      have := it_w n hWw hB9 h hh
      exact ⟨this.1.1, this.2⟩)
    rw [hgo] at e2
    have hlt : ((9 : Int32) < nI i) = False := eq_false (by rw [show (9 : Int32) = nI 9 from rfl, nI_ltP (by omega) (by omega)]; omega)
    have s1 : ∀ v, stI (P d x m) 163 0 (1 : Int32) v = some (P d x (mA m 10 1 v)) := fun v => sm_10 d x m 1 v (by omega)
    unfold waterA
    by_cases c : nlaB (A.1 0) ((itA (CW C fo F none) n (wetA A (nI i))).1 0) C.1 = true
    · refine ⟨m2, ?_, k2, he2⟩
      rw [if_pos (show nlaB (A.1 0) ((itA (CW C fo F none) n (wetA A (nI i))).1 0) (CW C fo F none).1 = true from c), e_X4_water_44]
      simp (disch := omega) only [e_X4_water_51, e_X4_water_56, e_X4_water_77, e_X4_water_81, cond_true, cond_false, Option.bind_some, rI_s, rL_s, rR_s, rV_s, cnd_d, cnd_ne, cnd_eq, bI_d0, bI_t0, ite_not, decide_eq_false_iff_not, decide_eq_true_eq, lg_cmp_ge, lg_cmp_le, lg_cmp_gt, lg_cmp_lt, lg_cmp_eq, okb_1, okb_0, okb_b, eq_self, if_true, if_false, Bool.true_eq_false, Bool.false_eq_true, li_3, li_4, li_5, li_6, li_7, li_8, li_10, li_11, li_12, li_13, li_14, li_15, li_16, li_18, li_20, li_22, li_24, li_25, li_26, li_28, li_32, li_38, li_40, li_43, li_44, li_45, li_46, li_47, li_48, li_49, li_50, li_54, li_56, li_59, li_60, li_61, li_64, li_91, li_93, li_99, li_100, li_111, li_112, li_117, li_122, li_123, li_131, li_132, li_200, li_255, li_256, li_400, li_560, li_9999, li_10000, li_99999, li_65536, pk_mul, nI_add, nI_1, neg_lt0, neg_le0, nI_nn, nI_nlt0, hlt, show ¬ (0 : Int32) ≤ -2 by decide, rm_21, s1, e1, e2, hwn, c, e3]
      rw [e_X4_water_44]
      simp (disch := omega) only [e_X4_water_51, cond_true, cond_false, Option.bind_some, rI_s, rL_s, rR_s, rV_s, cnd_d, cnd_ne, cnd_eq, bI_d0, bI_t0, ite_not, decide_eq_false_iff_not, decide_eq_true_eq, lg_cmp_ge, lg_cmp_le, lg_cmp_gt, lg_cmp_lt, lg_cmp_eq, okb_1, okb_0, okb_b, eq_self, if_true, if_false, Bool.true_eq_false, Bool.false_eq_true, nI_nn]
      split <;> rfl
    · obtain ⟨m4, e4, k4, he4⟩ := M_waterL k d x C fo F n hn h6 A hW hB9 m0 hC hA w r (i + 1) m2 (by omega) k2 he2
      refine ⟨m4, ?_, k4, he4⟩
      rw [if_neg (show ¬ nlaB (A.1 0) ((itA (CW C fo F none) n (wetA A (nI i))).1 0) (CW C fo F none).1 = true from c), ← e4, e_X4_water_44]
      simp (disch := omega) only [e_X4_water_51, e_X4_water_56, e_X4_water_81, cond_true, cond_false, Option.bind_some, rI_s, rL_s, rR_s, rV_s, cnd_d, cnd_ne, cnd_eq, bI_d0, bI_t0, ite_not, decide_eq_false_iff_not, decide_eq_true_eq, lg_cmp_ge, lg_cmp_le, lg_cmp_gt, lg_cmp_lt, lg_cmp_eq, okb_1, okb_0, okb_b, eq_self, if_true, if_false, Bool.true_eq_false, Bool.false_eq_true, li_3, li_4, li_5, li_6, li_7, li_8, li_10, li_11, li_12, li_13, li_14, li_15, li_16, li_18, li_20, li_22, li_24, li_25, li_26, li_28, li_32, li_38, li_40, li_43, li_44, li_45, li_46, li_47, li_48, li_49, li_50, li_54, li_56, li_59, li_60, li_61, li_64, li_91, li_93, li_99, li_100, li_111, li_112, li_117, li_122, li_123, li_131, li_132, li_200, li_255, li_256, li_400, li_560, li_9999, li_10000, li_99999, li_65536, pk_mul, nI_add, nI_1, neg_lt0, neg_le0, nI_nn, nI_nlt0, hlt, show ¬ (0 : Int32) ≤ -2 by decide, rm_21, s1, e1, e2, hwn, c, e3]
