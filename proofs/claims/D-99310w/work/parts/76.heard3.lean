theorem M_heardL (k : Nat) (d : AH) (x : XS) (C : AC) (fo : Option Nat) (F : Nat → (Nat → Int64) → Int64) (q : Nat) (hq : q < C.1) (h6 : C.1 ≤ 6) (A : AA) (hW : WA (CW C fo F none) A) (m0 : MS) (hC : VC (CW C fo F none) m0) (hA : VA (CW C fo F none) A m0) : ∀ (r i : Nat) (m : MS), i + r = 21 → KM m0 m → m.2.1 10 = m0.2.1 10 → ∃ m', evR T_X4_heard (callR (k + 8)) 19 ([(0, .ref 153), (1, .int (nI q)), (2, .int (-2)), (3, .int (nI i))], [], P d x m) = evR T_X4_heard (callR (k + 8)) 61 ([(0, .ref 153), (2, .int (heardV (heardA (CW C fo F none) q A r i)))], [], P d x m') ∧ KM m0 m' ∧ m'.2.1 10 = m0.2.1 10
  | 0, i, m, hi, hk, he => by
    refine ⟨m, ?_, hk, he⟩
    rw [e_X4_heard_19]
    simp (disch := omega) only [cond_true, cond_false, Option.bind_some, rI_s, rL_s, rR_s, rV_s, cnd_d, cnd_ne, cnd_eq, bI_d0, bI_t0, ite_not, decide_eq_false_iff_not, decide_eq_true_eq, lg_cmp_ge, lg_cmp_le, lg_cmp_gt, lg_cmp_lt, lg_cmp_eq, okb_1, okb_0, okb_b, eq_self, if_true, if_false, Bool.true_eq_false, Bool.false_eq_true, li_2, li_3, li_4, li_5, li_6, li_7, li_8, li_9, li_10, li_11, li_12, li_13, li_14, li_15, li_16, li_18, li_20, li_22, li_24, li_25, li_26, li_28, li_32, li_38, li_40, li_43, li_44, li_45, li_46, li_47, li_48, li_49, li_50, li_54, li_56, li_59, li_60, li_61, li_64, li_91, li_93, li_99, li_100, li_111, li_112, li_117, li_122, li_123, li_131, li_132, li_200, li_255, li_256, li_400, li_560, li_9999, li_10000, li_99999, li_65536, pk_mul, nI_add, nI_1, neg_lt0, neg_le0, nI_nn, nI_nlt0, nI_ltP, show i = 21 by omega, show 20 < 21 by omega]
    rfl
  | r + 1, i, m, hi, hk, he => by
    have hA1 := VA_says (KM_VA hk he hA) q hq h6 (nI i)
    have hf := mA_Fr m (14 + 4 * q + 2) (nI i) (by omega)
    have hk1 := KM_fr hk hf
    obtain ⟨m1, e1, k1, he1⟩ := M_comesTo k d x (CW C fo F none) (nI q) (setA A 2 q (nI i)) m0 _ (WA_says hW q _) (KM_VC hk1 hC) hA1 hk1
    have hlt : ((20 : Int32) < nI i) = False := eq_false (by rw [show (20 : Int32) = nI 20 from rfl, nI_ltP (by omega) (by omega)]; omega)
    have s5 : stI (P d x m) 163 0 (nI (14 + 4 * q + 2)) (nI i) = some (P d x (mA m 10 (14 + 4 * q + 2) (nI i))) := sm_10 d x m _ _ (by omega)
    have s6 : stI (P d x m) 163 0 (nI (14 + 4 * q) + 2) (nI i) = some (P d x (mA m 10 (14 + 4 * q + 2) (nI i))) := by rw [show (2 : Int32) = nI 2 from rfl, nI_add]; exact s5
    unfold heardA
    cases c : comeB (CW C fo F none) (nI q) 20 (setA A 2 q (nI i)) with
    | true =>
      rw [c] at e1
      refine ⟨m1, ?_, k1, he1⟩
      rw [if_pos rfl, e_X4_heard_19]
      simp (disch := omega) only [e_X4_heard_25, e_X4_heard_29, e_X4_heard_53, e_X4_heard_55, cond_true, cond_false, Option.bind_some, rI_s, rL_s, rR_s, rV_s, cnd_d, cnd_ne, cnd_eq, bI_d0, bI_t0, ite_not, decide_eq_false_iff_not, decide_eq_true_eq, lg_cmp_ge, lg_cmp_le, lg_cmp_gt, lg_cmp_lt, lg_cmp_eq, okb_1, okb_0, okb_b, eq_self, if_true, if_false, Bool.true_eq_false, Bool.false_eq_true, li_3, li_4, li_5, li_6, li_7, li_8, li_9, li_10, li_11, li_12, li_13, li_14, li_15, li_16, li_18, li_22, li_24, li_25, li_26, li_28, li_32, li_38, li_40, li_43, li_44, li_45, li_46, li_47, li_48, li_49, li_50, li_54, li_56, li_59, li_60, li_61, li_64, li_91, li_93, li_99, li_100, li_111, li_112, li_117, li_122, li_123, li_131, li_132, li_200, li_255, li_256, li_400, li_560, li_9999, li_10000, li_99999, li_65536, pk_mul, nI_add, nI_1, neg_lt0, neg_le0, nI_nn, nI_nlt0, hlt, show ¬ (0 : Int32) ≤ -2 by decide, rm_21, s6, e1]
      rw [e_X4_heard_19]
      simp (disch := omega) only [e_X4_heard_25, cond_true, cond_false, Option.bind_some, rI_s, rL_s, rR_s, rV_s, cnd_d, cnd_ne, cnd_eq, bI_d0, bI_t0, ite_not, decide_eq_false_iff_not, decide_eq_true_eq, lg_cmp_ge, lg_cmp_le, lg_cmp_gt, lg_cmp_lt, lg_cmp_eq, okb_1, okb_0, okb_b, eq_self, if_true, if_false, Bool.true_eq_false, Bool.false_eq_true, nI_nn]
      split <;> rfl
    | false =>
      rw [c] at e1
      obtain ⟨m2, e2, k2, he2⟩ := M_heardL k d x C fo F q hq h6 A hW m0 hC hA r (i + 1) m1 (by omega) k1 he1
      refine ⟨m2, ?_, k2, he2⟩
      rw [if_neg (by decide), ← e2, e_X4_heard_19]
      simp (disch := omega) only [e_X4_heard_25, e_X4_heard_29, e_X4_heard_55, cond_true, cond_false, Option.bind_some, rI_s, rL_s, rR_s, rV_s, cnd_d, cnd_ne, cnd_eq, bI_d0, bI_t0, ite_not, decide_eq_false_iff_not, decide_eq_true_eq, lg_cmp_ge, lg_cmp_le, lg_cmp_gt, lg_cmp_lt, lg_cmp_eq, okb_1, okb_0, okb_b, eq_self, if_true, if_false, Bool.true_eq_false, Bool.false_eq_true, li_3, li_4, li_5, li_6, li_7, li_8, li_9, li_10, li_11, li_12, li_13, li_14, li_15, li_16, li_18, li_22, li_24, li_25, li_26, li_28, li_32, li_38, li_40, li_43, li_44, li_45, li_46, li_47, li_48, li_49, li_50, li_54, li_56, li_59, li_60, li_61, li_64, li_91, li_93, li_99, li_100, li_111, li_112, li_117, li_122, li_123, li_131, li_132, li_200, li_255, li_256, li_400, li_560, li_9999, li_10000, li_99999, li_65536, pk_mul, nI_add, nI_1, neg_lt0, neg_le0, nI_nn, nI_nlt0, hlt, show ¬ (0 : Int32) ≤ -2 by decide, rm_21, s6, e1]
theorem op_heard (g : Int32) : AskOK n_X0_heard n_X4_heard [.int g] := by
  intro Z d x m hR k
  obtain ⟨C, A, n, u, a, t, nr, F, fo, hP, hS⟩ := Rel_to hR
  obtain ⟨hZ, hV, hN, hPR, hT, hRR, hF, hD, hBr, hI⟩ := id hP
  have hvp := (hV.2.1 d (Ext_refl Z d)).1
  have h6 := hV.1.1.2
  have xh := X_isHouse (k + 996) d x m C (hvp.1 x m) h6 g
  have mh : ∀ x, _ := fun x => M_isHouse (k + 998) d x m C.1 h6 hV.1.1.1 g
  cases c1 : hB C.1 g with
  | false =>
    rw [c1] at xh mh
    refine ask_n (-1) ?_ ?_
    · simp (disch := omega) only [c_X0_heard, e_X0_heard_0, e_X0_heard_8, cond_true, cond_false, Option.bind_some, rI_s, rL_s, rR_s, rV_s, cnd_d, cnd_ne, cnd_eq, bI_d0, bI_t0, ite_not, decide_eq_false_iff_not, decide_eq_true_eq, lg_cmp_ge, lg_cmp_le, lg_cmp_gt, lg_cmp_lt, lg_cmp_eq, okb_1, okb_0, okb_b, eq_self, if_true, if_false, Bool.true_eq_false, Bool.false_eq_true, isO_X, xh]
    · simp (disch := omega) only [c_X4_heard, e_X4_heard_0, e_X4_heard_8, cond_true, cond_false, Option.bind_some, rI_s, rL_s, rR_s, rV_s, cnd_d, cnd_ne, cnd_eq, bI_d0, bI_t0, ite_not, decide_eq_false_iff_not, decide_eq_true_eq, lg_cmp_ge, lg_cmp_le, lg_cmp_gt, lg_cmp_lt, lg_cmp_eq, okb_1, okb_0, okb_b, eq_self, if_true, if_false, Bool.true_eq_false, Bool.false_eq_true, isO_M, mh]
  | true =>
    obtain ⟨q, hq, rfl⟩ := hB_of (by omega) c1
    rw [c1] at xh mh
    have hC := Rel_XC hV hRR hF hBr.1
    have hCm := Rel_VC hV.1 hRR hF hBr.2.1
    have hAm := Rel_VA (fo := fo) (F := F) hS.1 hBr.2.2
    have hWw := Rel_WA (fo := fo) (F := F) hS.2.2
    obtain ⟨x2, e2, s2⟩ := X_heardL (k + 794) d m C fo F q hq h6 A hWw x hC hS.2.1 21 0 x (by omega) (SimX_refl x)
    obtain ⟨m1, g1, q1⟩ := M_keeps (k + 998) d x2 m
    obtain ⟨km, ke⟩ := KM_keep q1
    obtain ⟨m2, g2, k2, he2⟩ := M_heardL (k + 991) d x2 C fo F q hq h6 A hWw m hCm hAm 21 0 m1 (by omega) km ke
    obtain ⟨m3, g4, q4⟩ := M_laysBack (k + 998) d x2 m2
    obtain ⟨k3, he3⟩ := KM_back k2 q4
    refine ⟨heardV (heardA (CW C fo F none) q A 21 0), x2, ?_, s2, m3, ?_, KM_sim k3 he3⟩
    · rw [nI_0] at e2
      simp (disch := omega) only [c_X0_heard, e_X0_heard_0, e_X0_heard_10, cond_true, cond_false, Option.bind_some, rI_s, rL_s, rR_s, rV_s, cnd_d, cnd_ne, cnd_eq, bI_d0, bI_t0, ite_not, decide_eq_false_iff_not, decide_eq_true_eq, lg_cmp_ge, lg_cmp_le, lg_cmp_gt, lg_cmp_lt, lg_cmp_eq, okb_1, okb_0, okb_b, eq_self, if_true, if_false, Bool.true_eq_false, Bool.false_eq_true, isO_X, xh, e2]
    · rw [nI_0] at g2
      simp (disch := omega) only [c_X4_heard, e_X4_heard_0, e_X4_heard_10, e_X4_heard_61, cond_true, cond_false, Option.bind_some, rI_s, rL_s, rR_s, rV_s, cnd_d, cnd_ne, cnd_eq, bI_d0, bI_t0, ite_not, decide_eq_false_iff_not, decide_eq_true_eq, lg_cmp_ge, lg_cmp_le, lg_cmp_gt, lg_cmp_lt, lg_cmp_eq, okb_1, okb_0, okb_b, eq_self, if_true, if_false, Bool.true_eq_false, Bool.false_eq_true, isO_M, mh, g1, g2, g4]
