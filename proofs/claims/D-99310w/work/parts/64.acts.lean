/-! acts, kept as it was ahead of them -/
theorem i_mod20 : ∀ a, a < 20 → nI (a + 1) - nI (a + 1) / nI 20 * nI 20 = nI ((a + 1) % 20) := by decide
theorem i_min20 : ∀ u, u < 21 → (if nI (u + 1) < 20 then nI (u + 1) else 20) = nI (min 20 (u + 1)) := by decide
theorem X_keeps (k : Nat) (d : AH) (x : XS) (m : MS) (u a : Nat) (hu : u ≤ 20) (ha : a < 20) (h20 : x.1 20 = nI u) (h21 : x.1 21 = nI a) : ∃ s', callR (k + 2) n_X0_keeps [.ref 0] (P d x m) = some (.inl none, P d (xF (xF (xS x (2 + a) s') 21 (nI ((a + 1) % 20))) 20 (nI (min 20 (u + 1)))) m) ∧ EqS (x.2.2.2.1 0) s' := by
  have hs : sAd (2 + a) = 28 + 6 * a := by unfold sAd; rw [if_neg (by omega), if_neg (by omega)]; omega
  obtain ⟨s', e, q⟩ := X_copyFrom k (P d x m) (28 + 6 * a) 6 (x.2.2.2.1 (2 + a)) (x.2.2.2.1 0) (by rw [← hs]; exact StAt_P d x m (2 + a) (by omega)) (StAt_P d x m 0 (by omega)) (by omega)
  have e2 : sput (P d x m) (28 + 6 * a) s' = P d (xS x (2 + a) s') m := by rw [← hs]; exact P_s d x m (2 + a) (by omega) s'
  rw [e2] at e
  refine ⟨s', ?_, q⟩
  simp (disch := omega) only [e_X0_keeps_0, c_X0_keeps, cond_true, cond_false, Option.bind_some, rI_s, rL_s, rR_s, rV_s, cnd_d, cnd_ne, cnd_eq, bI_d0, bI_t0, ite_not, decide_eq_false_iff_not, decide_eq_true_eq, lg_cmp_ge, lg_cmp_le, lg_cmp_gt, lg_cmp_lt, lg_cmp_eq, okb_1, okb_0, okb_b, li_2, li_3, li_4, li_5, li_6, li_7, li_8, li_9, li_10, li_11, li_12, li_13, li_14, li_15, li_16, li_18, li_22, li_24, li_25, li_26, li_28, li_32, li_38, li_40, li_43, li_44, li_45, li_46, li_47, li_48, li_49, li_50, li_54, li_56, li_59, li_60, li_61, li_64, li_91, li_93, li_99, li_100, li_111, li_112, li_117, li_122, li_123, li_131, li_132, li_200, li_255, li_256, li_400, li_560, li_9999, li_10000, li_99999, li_65536, pk_mul, nI_add, nI_1, neg_lt0, neg_le0, nI_nn, nI_nlt0, isO_X, rx_19, rx_21, rx_20, rx_1, wx_20, wx_21, h21, lq_27, e, xS_1, xF_n, h20]
  rw [show (20 : Int32) = nI 20 from rfl, i_mod20 a ha]
  have := i_min20 u (by omega)
  rw [← this]
  rfl
theorem M_shiftL (E : AEn) (d : AH) (x : XS) (m : MS) : ∀ (r i : Nat) (m1 : MS), 28 + i + r = 560 → CpM 12 0 i (fun c => m.2.1 12 (28 + c)) m m1 → ∃ m', evR T_X4_keepsAct E 12 ([(0, .ref 153), (1, .int (nI (28 + i)))], [], P d x m1) = evR T_X4_keepsAct E 40 ([(0, .ref 153)], [], P d x m') ∧ CpM 12 0 532 (fun c => m.2.1 12 (28 + c)) m m'
  | 0, i, m1, hi, h => by
    have e : i = 532 := by omega
    subst e
    refine ⟨m1, ?_, h⟩
    rw [e_X4_keepsAct_12]
    simp (disch := omega) only [cond_true, cond_false, Option.bind_some, rI_s, rL_s, rR_s, rV_s, cnd_d, cnd_ne, cnd_eq, bI_d0, bI_t0, ite_not, decide_eq_false_iff_not, decide_eq_true_eq, lg_cmp_ge, lg_cmp_le, lg_cmp_gt, lg_cmp_lt, lg_cmp_eq, okb_1, okb_0, okb_b, li_2, li_3, li_4, li_5, li_6, li_7, li_8, li_9, li_10, li_11, li_12, li_13, li_14, li_15, li_16, li_18, li_20, li_22, li_24, li_25, li_26, li_28, li_32, li_38, li_40, li_43, li_44, li_45, li_46, li_47, li_48, li_49, li_50, li_54, li_56, li_59, li_60, li_61, li_64, li_91, li_93, li_99, li_100, li_111, li_112, li_117, li_122, li_123, li_131, li_132, li_200, li_255, li_256, li_400, li_560, li_9999, li_10000, li_99999, li_65536, pk_mul, nI_add, nI_1, neg_lt0, neg_le0, nI_nn, nI_nlt0, le_rT, if_true]
  | r + 1, i, m1, hi, h => by
    have hs := CpM_s h
    rw [Nat.zero_add] at hs
    obtain ⟨m', e', h'⟩ := M_shiftL E d x m r (i + 1) _ (by omega) hs
    refine ⟨m', ?_, h'⟩
    have hr : m1.2.1 12 (28 + i) = m.2.1 12 (28 + i) := h.2.1 _ (by omega)
    rw [← e', e_X4_keepsAct_12]
    simp (disch := omega) only [e_X4_keepsAct_19, cond_true, cond_false, Option.bind_some, rI_s, rL_s, rR_s, rV_s, cnd_d, cnd_ne, cnd_eq, bI_d0, bI_t0, ite_not, decide_eq_false_iff_not, decide_eq_true_eq, lg_cmp_ge, lg_cmp_le, lg_cmp_gt, lg_cmp_lt, lg_cmp_eq, okb_1, okb_0, okb_b, li_2, li_3, li_4, li_5, li_6, li_7, li_8, li_9, li_10, li_11, li_12, li_13, li_14, li_15, li_16, li_18, li_20, li_22, li_24, li_25, li_26, li_28, li_32, li_38, li_40, li_43, li_44, li_45, li_46, li_47, li_48, li_49, li_50, li_54, li_56, li_59, li_60, li_61, li_64, li_91, li_93, li_99, li_100, li_111, li_112, li_117, li_122, li_123, li_131, li_132, li_200, li_255, li_256, li_400, li_560, li_9999, li_10000, li_99999, li_65536, pk_mul, nI_add, nI_1, neg_lt0, neg_le0, nI_nn, nI_nlt0, isO_M, lm_1, sm_1, lm_2, sm_2, lm_3, sm_3, lm_4, sm_4, lm_5, sm_5, lm_6, sm_6, lm_7, sm_7, lm_8, sm_8, lm_9, sm_9, lm_10, sm_10, lm_11, sm_11, lm_12, sm_12, lm_13, sm_13, lm_14, sm_14, lm_15, sm_15, lm_16, sm_16, lm_17, sm_17, lm_18, sm_18, lm_19, sm_19, lm_20, sm_20, lm_21, sm_21, rm_0, rm_1, wm_1, rm_2, wm_2, rm_3, rm_4, rm_5, rm_6, rm_7, rm_8, wm_8, rm_9, wm_9, rm_10, wm_10, rm_11, wm_11, rm_12, wm_12, rm_13, wm_13, rm_14, wm_14, rm_15, rm_16, wm_16, rm_17, wm_17, rm_18, rm_19, wm_19, rm_20, rm_21, rm_22, wm_22, rm_23, wm_23, rm_24, rm_25, wm_25, rm_26, wm_26, rm_27, wm_27, rm_28, wm_28, rm_29, wm_29, rm_30, rm_31, wm_31, rm_32, rm_33, rm_34, wm_34, rm_35, rm_36, rm_37, rm_38, wm_38, rm_39, rm_40, rm_41, rm_42, nI_leP, if_neg (show ¬ 560 ≤ 28 + i by omega), pk_sub, show 28 + i - 28 = i by omega, hr, show 28 + i + 1 = 28 + (i + 1) by omega]
theorem M_pushL (E : AEn) (d : AH) (x : XS) (m : MS) (u : Nat) (hu : u < 20) (h31 : m.1 31 = nI u) : ∀ (r i : Nat) (m1 : MS), i + r = 28 → CpM 12 (28 * u) i (fun c => m.2.1 10 (10 + c)) m m1 → ∃ m', evR T_X4_keepsAct E 52 ([(0, .ref 153), (1, .int (nI i))], [], P d x m1) = some (.inl none, P d x (mF m' 31 (nI (u + 1)))) ∧ CpM 12 (28 * u) 28 (fun c => m.2.1 10 (10 + c)) m m'
  | 0, i, m1, hi, h => by
    have e : i = 28 := by omega
    subst e
    refine ⟨m1, ?_, h⟩
    have e31 : m1.1 31 = nI u := by rw [h.2.2.2.1]; exact h31
    rw [e_X4_keepsAct_52]
    simp (disch := omega) only [e_X4_keepsAct_87, cond_true, cond_false, Option.bind_some, rI_s, rL_s, rR_s, rV_s, cnd_d, cnd_ne, cnd_eq, bI_d0, bI_t0, ite_not, decide_eq_false_iff_not, decide_eq_true_eq, lg_cmp_ge, lg_cmp_le, lg_cmp_gt, lg_cmp_lt, lg_cmp_eq, okb_1, okb_0, okb_b, li_2, li_3, li_4, li_5, li_6, li_7, li_8, li_9, li_10, li_11, li_12, li_13, li_14, li_15, li_16, li_18, li_20, li_22, li_24, li_25, li_26, li_28, li_32, li_38, li_40, li_43, li_44, li_45, li_46, li_47, li_48, li_49, li_50, li_54, li_56, li_59, li_60, li_61, li_64, li_91, li_93, li_99, li_100, li_111, li_112, li_117, li_122, li_123, li_131, li_132, li_200, li_255, li_256, li_400, li_560, li_9999, li_10000, li_99999, li_65536, pk_mul, nI_add, nI_1, neg_lt0, neg_le0, nI_nn, nI_nlt0, isO_M, lm_1, sm_1, lm_2, sm_2, lm_3, sm_3, lm_4, sm_4, lm_5, sm_5, lm_6, sm_6, lm_7, sm_7, lm_8, sm_8, lm_9, sm_9, lm_10, sm_10, lm_11, sm_11, lm_12, sm_12, lm_13, sm_13, lm_14, sm_14, lm_15, sm_15, lm_16, sm_16, lm_17, sm_17, lm_18, sm_18, lm_19, sm_19, lm_20, sm_20, lm_21, sm_21, rm_0, rm_1, wm_1, rm_2, wm_2, rm_3, rm_4, rm_5, rm_6, rm_7, rm_8, wm_8, rm_9, wm_9, rm_10, wm_10, rm_11, wm_11, rm_12, wm_12, rm_13, wm_13, rm_14, wm_14, rm_15, rm_16, wm_16, rm_17, wm_17, rm_18, rm_19, wm_19, rm_20, rm_21, rm_22, wm_22, rm_23, wm_23, rm_24, rm_25, wm_25, rm_26, wm_26, rm_27, wm_27, rm_28, wm_28, rm_29, wm_29, rm_30, rm_31, wm_31, rm_32, rm_33, rm_34, wm_34, rm_35, rm_36, rm_37, rm_38, wm_38, rm_39, rm_40, rm_41, rm_42, le_rT, if_true, e31]
  | r + 1, i, m1, hi, h => by
    have hs := CpM_s h
    obtain ⟨m', e', h'⟩ := M_pushL E d x m u hu h31 r (i + 1) _ (by omega) hs
    refine ⟨m', ?_, h'⟩
    have e31 : m1.1 31 = nI u := by rw [h.2.2.2.1]; exact h31
    rw [← e', e_X4_keepsAct_52]
    simp (disch := omega) only [e_X4_keepsAct_58, cond_true, cond_false, Option.bind_some, rI_s, rL_s, rR_s, rV_s, cnd_d, cnd_ne, cnd_eq, bI_d0, bI_t0, ite_not, decide_eq_false_iff_not, decide_eq_true_eq, lg_cmp_ge, lg_cmp_le, lg_cmp_gt, lg_cmp_lt, lg_cmp_eq, okb_1, okb_0, okb_b, li_2, li_3, li_4, li_5, li_6, li_7, li_8, li_9, li_10, li_11, li_12, li_13, li_14, li_15, li_16, li_18, li_20, li_22, li_24, li_25, li_26, li_28, li_32, li_38, li_40, li_43, li_44, li_45, li_46, li_47, li_48, li_49, li_50, li_54, li_56, li_59, li_60, li_61, li_64, li_91, li_93, li_99, li_100, li_111, li_112, li_117, li_122, li_123, li_131, li_132, li_200, li_255, li_256, li_400, li_560, li_9999, li_10000, li_99999, li_65536, pk_mul, nI_add, nI_1, neg_lt0, neg_le0, nI_nn, nI_nlt0, isO_M, lm_1, sm_1, lm_2, sm_2, lm_3, sm_3, lm_4, sm_4, lm_5, sm_5, lm_6, sm_6, lm_7, sm_7, lm_8, sm_8, lm_9, sm_9, lm_10, sm_10, lm_11, sm_11, lm_12, sm_12, lm_13, sm_13, lm_14, sm_14, lm_15, sm_15, lm_16, sm_16, lm_17, sm_17, lm_18, sm_18, lm_19, sm_19, lm_20, sm_20, lm_21, sm_21, rm_0, rm_1, wm_1, rm_2, wm_2, rm_3, rm_4, rm_5, rm_6, rm_7, rm_8, wm_8, rm_9, wm_9, rm_10, wm_10, rm_11, wm_11, rm_12, wm_12, rm_13, wm_13, rm_14, wm_14, rm_15, rm_16, wm_16, rm_17, wm_17, rm_18, rm_19, wm_19, rm_20, rm_21, rm_22, wm_22, rm_23, wm_23, rm_24, rm_25, wm_25, rm_26, wm_26, rm_27, wm_27, rm_28, wm_28, rm_29, wm_29, rm_30, rm_31, wm_31, rm_32, rm_33, rm_34, wm_34, rm_35, rm_36, rm_37, rm_38, wm_38, rm_39, rm_40, rm_41, rm_42, nI_leP, if_neg (show ¬ 28 ≤ i by omega), e31, h.2.2.1 10 (by omega)]
/-- m' is m with the state put on the row of acts -/
def KpM (u : Nat) (m m' : MS) : Prop := m'.1 31 = nI (min 20 (u + 1)) ∧ (∀ k, k ≠ 31 → m'.1 k = m.1 k) ∧ (∀ j, j ≠ 12 → m'.2.1 j = m.2.1 j) ∧ m'.2.2 = m.2.2 ∧ ∀ j, j < min 20 (u + 1) → ∀ i, i < 28 → m'.2.1 12 (28 * j + i) = if j + 1 = min 20 (u + 1) then m.2.1 10 (10 + i) else m.2.1 12 (28 * (j + (if u = 20 then 1 else 0)) + i)
theorem M_keepsAct (k : Nat) (d : AH) (x : XS) (m : MS) (u : Nat) (hu : u ≤ 20) (h31 : m.1 31 = nI u) : ∃ m', callR (k + 1) n_X4_keepsAct [.ref 153] (P d x m) = some (.inl none, P d x m') ∧ KpM u m m' := by
  by_cases h20 : u = 20
  · subst h20
    obtain ⟨m1, e1, q1⟩ := M_shiftL (callR k) d x m 532 0 m (by omega) (CpM_0 _ _ _ _)
    have g31 : (mF m1 31 (nI 19)).1 31 = nI 19 := mF_s _ _ _
    obtain ⟨m2, e2, q2⟩ := M_pushL (callR k) d x (mF m1 31 (nI 19)) 19 (by omega) g31 28 0 _ (by omega) (CpM_0 _ _ _ _)
    refine ⟨mF m2 31 (nI 20), ?_, mF_s _ _ _, fun k hk => ?_, fun j hj => ?_, ?_, fun j hj i hi => ?_⟩
    · rw [← e2, nI_0]
      have e31 : m1.1 31 = nI 20 := by rw [q1.2.2.2.1]; exact h31
      rw [show nI (28 + 0) = (28 : Int32) from rfl] at e1
      simp (disch := omega) only [c_X4_keepsAct, e_X4_keepsAct_0, e_X4_keepsAct_9, cond_true, cond_false, Option.bind_some, rI_s, rL_s, rR_s, rV_s, cnd_d, cnd_ne, cnd_eq, bI_d0, bI_t0, ite_not, decide_eq_false_iff_not, decide_eq_true_eq, lg_cmp_ge, lg_cmp_le, lg_cmp_gt, lg_cmp_lt, lg_cmp_eq, okb_1, okb_0, okb_b, isO_M, rm_31, h31]
      rw [if_pos (by rfl), e1]
      simp (disch := omega) only [e_X4_keepsAct_40, e_X4_keepsAct_50, cond_true, cond_false, Option.bind_some, rI_s, rL_s, rR_s, rV_s, cnd_d, cnd_ne, cnd_eq, bI_d0, bI_t0, ite_not, decide_eq_false_iff_not, decide_eq_true_eq, lg_cmp_ge, lg_cmp_le, lg_cmp_gt, lg_cmp_lt, lg_cmp_eq, okb_1, okb_0, okb_b, rm_31, wm_31, e31]
      rw [show nI 20 - 1 = nI 19 from rfl]
    · rw [mF_n _ _ _ _ hk, q2.2.2.2.1, mF_n _ _ _ _ hk, q1.2.2.2.1]
    · rw [mF_2, q2.2.2.1 j hj, mF_2, q1.2.2.1 j hj]
    · show m2.2.2 = m.2.2
      rw [q2.2.2.2.2, mF_2, q1.2.2.2.2]
    · rw [mF_2, show min 20 (20 + 1) = 20 from rfl]
      by_cases e : j + 1 = 20
      · rw [if_pos e, show 28 * j + i = 28 * 19 + i by omega, q2.1 i hi, mF_2, q1.2.2.1 10 (by omega)]
      · rw [if_neg e, q2.2.1 _ (by omega), mF_2]
        have := q1.1 (28 * j + i) (by omega)
        rw [Nat.zero_add] at this
        rw [this, if_pos rfl]
        show m.2.1 12 (28 + (28 * j + i)) = _
        rw [show 28 + (28 * j + i) = 28 * (j + 1) + i by omega]
  · obtain ⟨m2, e2, q2⟩ := M_pushL (callR k) d x m u (by omega) h31 28 0 _ (by omega) (CpM_0 _ _ _ _)
    refine ⟨mF m2 31 (nI (u + 1)), ?_, by rw [mF_s, show min 20 (u + 1) = u + 1 by omega], fun k hk => ?_, fun j hj => ?_, q2.2.2.2.2, fun j hj i hi => ?_⟩
    · rw [← e2, nI_0]
      simp (disch := omega) only [c_X4_keepsAct, e_X4_keepsAct_0, e_X4_keepsAct_50, cond_true, cond_false, Option.bind_some, rI_s, rL_s, rR_s, rV_s, cnd_d, cnd_ne, cnd_eq, bI_d0, bI_t0, ite_not, decide_eq_false_iff_not, decide_eq_true_eq, lg_cmp_ge, lg_cmp_le, lg_cmp_gt, lg_cmp_lt, lg_cmp_eq, okb_1, okb_0, okb_b, isO_M, rm_31, h31, li_20, nI_eqP, if_neg h20]
    · rw [mF_n _ _ _ _ hk, q2.2.2.2.1]
    · rw [mF_2, q2.2.2.1 j hj]
    · rw [mF_2, show min 20 (u + 1) = u + 1 by omega]
      by_cases e : j + 1 = u + 1
      · rw [if_pos e, show j = u by omega, q2.1 i hi]
      · rw [if_neg e, if_neg h20, Nat.add_zero]
        exact q2.2.1 _ (by omega)
theorem layS_c {sd sd' f f' : Nat → Int32} (h : ∀ i, i < 10 ∨ 38 ≤ i → sd' i = sd i) (hf : ∀ i, i < 28 → f' i = f i) : layS sd' f' = layS sd f := by
  funext i
  unfold layS
  by_cases c : 10 ≤ i ∧ i < 38
  · rw [if_pos c, if_pos c, hf _ (by omega)]
  · rw [if_neg c, if_neg c, h i (by omega)]
theorem layS_id (sd : Nat → Int32) : layS sd (fun i => sd (10 + i)) = sd := by
  funext i
  unfold layS
  by_cases c : 10 ≤ i ∧ i < 38
  · rw [if_pos c]
    show sd (10 + (i - 10)) = _
    rw [show 10 + (i - 10) = i by omega]
  · rw [if_neg c]
/-- the relation, by its parts -/
def RelP (Z : Nat → Bool) (d : AH) (x : XS) (m : MS) (C : AC) (n u a t nr : Nat) (F : Nat → (Nat → Int64) → Int64) (fo : Option Nat) : Prop := (∀ a, Z a = true → 175 ≤ a ∧ a < d.1 + 175) ∧ VR Z d (x.2.2.2.2.1 0) (m.2.1 10) C ∧ NR (x.2.1 22) (x.2.1 23) (x.1 10) (m.2.1 10) n ∧ PR x m C u a ∧ TR x m t ∧ RR Z d x m nr F ∧ (x.1 4 = oI fo ∧ m.1 22 = oI fo ∧ ∀ r, fo = some r → r < nr) ∧ (x.1 11 = m.1 23 ∧ 0 ≤ m.1 23) ∧ (x.1 17 = 0 ∧ m.1 25 = -1 ∧ m.1 27 = 0) ∧ IR Z d x m nr
def RelS (x : XS) (m : MS) (C : AC) (A : AA) : Prop := VAs C A (m.2.1 10) ∧ VX C A (x.2.2.2.1 0) ∧ WA0 C A
theorem Rel_of {Z : Nat → Bool} {d : AH} {x : XS} {m : MS} {C : AC} {A : AA} {n u a t nr : Nat} {F : Nat → (Nat → Int64) → Int64} {fo : Option Nat} (h : RelP Z d x m C n u a t nr F fo) (g : RelS x m C A) : Rel Z d x m := by
  obtain ⟨hZ, hV, hN, hP, hT, hR, hF, hD, hBr, hI⟩ := h
  exact ⟨hZ, C, A, n, u, a, t, nr, F, fo, hV, g.1, g.2.1, g.2.2, hN, hP, hT, hR, hF, hD, hBr, hI⟩
theorem Rel_to {Z : Nat → Bool} {d : AH} {x : XS} {m : MS} (h : Rel Z d x m) : ∃ (C : AC) (A : AA) (n u a t nr : Nat) (F : Nat → (Nat → Int64) → Int64) (fo : Option Nat), RelP Z d x m C n u a t nr F fo ∧ RelS x m C A := by
  obtain ⟨hZ, C, A, n, u, a, t, nr, F, fo, hV, hA, hX, hW, hN, hP, hT, hR, hF, hD, hBr, hI⟩ := h
  exact ⟨C, A, n, u, a, t, nr, F, fo, ⟨hZ, hV, hN, hP, hT, hR, hF, hD, hBr, hI⟩, hA, hX, hW⟩
theorem RR_fr {Z : Nat → Bool} {d : AH} {x x' : XS} {m m' : MS} {nr : Nat} {F : Nat → (Nat → Int64) → Int64} (h : RR Z d x m nr F) (e1 : x'.1 102 = x.1 102) (e2 : x'.2.2.2.2 = x.2.2.2.2) (e3 : m'.1 2 = m.1 2) (e4 : ∀ j, j = 2 ∨ j = 4 ∨ j = 5 → m'.2.1 j = m.2.1 j) : RR Z d x' m' nr F := by
  obtain ⟨p1, p2, p3, p4, p5⟩ := h
  exact ⟨p1, by rw [e1]; exact p2, by rw [e3]; exact p3, fun r hr => ⟨fun d' hd => RuX_fr ((p4 r hr).1 d' hd) e2 e1, RuM_fr (p4 r hr).2 e4⟩, by unfold AL; rw [e2]; exact p5⟩
/-- only the state is other -/
theorem RelP_st {Z : Nat → Bool} {d : AH} {x x' : XS} {m m' : MS} {C : AC} {n u a t nr : Nat} {F : Nat → (Nat → Int64) → Int64} {fo : Option Nat} (h : RelP Z d x m C n u a t nr F fo) (f : FX 0 x x') (g : Fr m m') : RelP Z d x' m' C n u a t nr F fo := by
  obtain ⟨hZ, hV, hN, hP, hT, hR, hF, hD, hBr, hI⟩ := h
  obtain ⟨f1, f2, f3, f4⟩ := f
  obtain ⟨g1, g2, g3, g4⟩ := g
  have hsd : ∀ i, i < 10 ∨ 38 ≤ i → m'.2.1 10 i = m.2.1 10 i := g2
  refine ⟨hZ, ?_, ?_, ?_, ?_, ?_, ?_, ?_, ?_, ?_⟩
  · rw [f4]
    obtain ⟨⟨⟨v1, v2⟩, v3, v4, v5, v6⟩, v7, v8, v9, v10⟩ := hV
    refine ⟨⟨⟨by rw [hsd 3 (by omega)]; exact v1, v2⟩, fun a b ha hb => by rw [hsd _ (by omega)]; exact v3 a b ha hb, fun h hh => by rw [hsd _ (by omega)]; exact v4 h hh, by rw [hsd 2 (by omega)]; exact v5, v6⟩, fun d' hd => ⟨(v7 d' hd).1, fun x m => ?_⟩, by rw [hsd 0 (by omega)]; exact v8, by rw [hsd 1 (by omega)]; exact v9, by rw [hsd 0 (by omega)]; exact v10⟩
    obtain ⟨w1, w2⟩ := (v7 d' hd).2 x m
    refine ⟨by rw [hsd 1 (by omega)]; exact w1, fun q hq => ?_⟩
    unfold HTold
    rw [hsd _ (by omega), hsd _ (by omega), hsd _ (by omega)]
    exact w2 q hq
  · obtain ⟨p1, p2, p3, p4⟩ := hN
    refine ⟨p1, by rw [f1 10 (by omega) (by omega)]; exact p2, by rw [hsd 131 (by omega)]; exact p3, fun i hi => ?_⟩
    rw [f2, hsd _ (by omega), hsd _ (by omega)]
    exact p4 i hi
  · obtain ⟨p1, p2, p3, p4, p5, p6⟩ := hP
    refine ⟨p1, p2, by rw [f1 20 (by omega) (by omega)]; exact p3, by rw [g3 31 (by omega) (by omega) (by omega) (by omega)]; exact p4, by rw [f1 21 (by omega) (by omega)]; exact p5, fun j hj => ?_⟩
    obtain ⟨A', q1, q2, q3⟩ := p6 j hj
    refine ⟨A', by rw [f3 _ (by omega)]; exact q1, ?_, q3⟩
    rw [layS_c (f' := fun i => m'.2.1 12 (28 * j + i)) (f := fun i => m.2.1 12 (28 * j + i)) hsd fun i _ => by rw [g1 12 (by omega)]]
    exact q2
  · obtain ⟨p1, p2, p3, p4⟩ := hT
    exact ⟨p1, by rw [f1 7 (by omega) (by omega)]; exact p2, by rw [g3 1 (by omega) (by omega) (by omega) (by omega)]; exact p3, fun i hi => by rw [f2, g1 1 (by omega)]; exact p4 i hi⟩
  · exact RR_fr hR (f1 102 (by omega) (by omega)) f4 (g3 2 (by omega) (by omega) (by omega) (by omega)) fun j hj => g1 j (by omega)
  · rw [f1 4 (by omega) (by omega), g3 22 (by omega) (by omega) (by omega) (by omega)]; exact hF
  · rw [f1 11 (by omega) (by omega), g3 23 (by omega) (by omega) (by omega) (by omega)]; exact hD
  · rw [f1 17 (by omega) (by omega), g3 25 (by omega) (by omega) (by omega) (by omega), g3 27 (by omega) (by omega) (by omega) (by omega)]; exact hBr
  · unfold IR IM
    rw [f4, g1 21 (by omega), g1 18 (by omega), g1 19 (by omega), g1 20 (by omega)]
    exact hI
theorem Rel_keep {Z : Nat → Bool} {d : AH} {x : XS} {m m' : MS} {C : AC} {A : AA} {n u a t nr : Nat} {F : Nat → (Nat → Int64) → Int64} {fo : Option Nat} (h : RelP Z d x m C n u a t nr F fo) (g : RelS x m C A) (s' : SS) (q : EqS (x.2.2.2.1 0) s') (km : KpM u m m') : RelP Z d (xF (xF (xS x (2 + a) s') 21 (nI ((a + 1) % 20))) 20 (nI (min 20 (u + 1)))) m' C n (min 20 (u + 1)) ((a + 1) % 20) t nr F fo ∧ RelS (xF (xF (xS x (2 + a) s') 21 (nI ((a + 1) % 20))) 20 (nI (min 20 (u + 1)))) m' C A := by
  obtain ⟨hZ, hV, hN, hP, hT, hR, hF, hD, hBr, hI⟩ := h
  obtain ⟨k1, k2, k3, k4, k5⟩ := km
  have h6 := hV.1.1.2
  have m10 : m'.2.1 10 = m.2.1 10 := k3 10 (by omega)
  obtain ⟨p1, p2, p3, p4, p5, p6⟩ := hP
  refine ⟨⟨hZ, by rw [m10]; exact hV, by rw [m10]; exact hN, ⟨by omega, Nat.mod_lt _ (by omega), xF_s _ _ _, k1, by rw [xF_n _ _ _ _ (by omega), xF_s], fun j hj => ?_⟩, ?_, ?_, ?_, ?_, ?_, ?_⟩, ?_, ?_, ?_⟩
  · have hm12 : (fun i => m'.2.1 12 (28 * j + i)) = fun i => m'.2.1 12 (28 * j + i) := rfl
    by_cases e : j + 1 = min 20 (u + 1)
    · refine ⟨A, ?_, ?_, g.2.2⟩
      · show VX C A (va_up x.2.2.2.1 (2 + a) s' _)
        rw [show 2 + ((a + 1) % 20 + 20 - min 20 (u + 1) + j) % 20 = 2 + a by omega, va_up_self]
        exact VX_EqS h6 g.2.1 q
      · rw [layS_c (sd := m.2.1 10) (f := fun i => m.2.1 10 (10 + i)) (fun i _ => by rw [m10]) fun i hi => by rw [k5 j hj i hi, if_pos e], layS_id]
        exact g.1
    · obtain ⟨A', q1, q2, q3⟩ := p6 (j + (if u = 20 then 1 else 0)) (by split <;> omega)
      refine ⟨A', ?_, ?_, q3⟩
      · show VX C A' (va_up x.2.2.2.1 (2 + a) s' _)
        have e2 : ((a + 1) % 20 + 20 - min 20 (u + 1) + j) % 20 = (a + 20 - u + (j + (if u = 20 then 1 else 0))) % 20 := by split <;> omega
        have e3 : (a + 20 - u + (j + (if u = 20 then 1 else 0))) % 20 ≠ a := by split <;> omega
        rw [e2, va_up_ne _ _ (by omega)]
        exact q1
      · rw [layS_c (sd := m.2.1 10) (f := fun i => m.2.1 12 (28 * (j + (if u = 20 then 1 else 0)) + i)) (fun i _ => by rw [m10]) fun i hi => by rw [k5 j hj i hi, if_neg e]]
        exact q2
  · obtain ⟨t1, t2, t3, t4⟩ := hT
    exact ⟨t1, t2, by rw [k2 1 (by omega)]; exact t3, fun i hi => by rw [k3 1 (by omega)]; exact t4 i hi⟩
  · exact RR_fr hR rfl rfl (k2 2 (by omega)) fun j hj => k3 j (by omega)
  · rw [k2 22 (by omega)]; exact hF
  · rw [k2 23 (by omega)]; exact hD
  · rw [k2 25 (by omega), k2 27 (by omega)]; exact hBr
  · unfold IR IM
    rw [k3 21 (by omega), k3 18 (by omega), k3 19 (by omega), k3 20 (by omega)]
    exact hI
  · rw [m10]; exact g.1
  · show VX C A (va_up x.2.2.2.1 (2 + a) s' 0)
    rw [va_up_ne _ _ (by omega)]; exact g.2.1
  · exact g.2.2
