theorem sumI_sub (t w n : Nat → Int32) : ∀ k, sumI (fun h => t h - (w h - n h)) k = sumI (fun h => t h - w h) k + sumI n k
  | 0 => rfl
  | k + 1 => by
    show sumI (fun h => t h - (w h - n h)) k + (t k - (w k - n k)) = sumI (fun h => t h - w h) k + (t k - w k) + (sumI n k + n k)
    rw [sumI_sub t w n k]
    grind
theorem sumI_sub2 (w n : Nat → Int32) : ∀ k, sumI w k - sumI (fun h => w h - n h) k = sumI n k
  | 0 => by simp [sumI]
  | k + 1 => by
    show sumI w k + w k - (sumI (fun h => w h - n h) k + (w k - n k)) = sumI n k + n k
    have := sumI_sub2 w n k
    grind
def B1 (C : AC) (A : AA) (m : MS) (i : Nat) (m1 : MS) : Prop := (∀ h, h < i → m1.2.1 10 (14 + 4 * h) = A.1 0 h - mnA A h) ∧ (∀ j, (∀ h, h < i → j ≠ 14 + 4 * h) → m1.2.1 10 j = m.2.1 10 j) ∧ m1.1 28 = orI (leapB C A) i ∧ (∀ k, k ≠ 28 → m1.1 k = m.1 k) ∧ (∀ j, j ≠ 10 → m1.2.1 j = m.2.1 j) ∧ m1.2.2 = m.2.2
def B2 (C : AC) (A : AA) (m : MS) (i : Nat) (m1 : MS) : Prop := (∀ h, h < i → m1.2.1 10 (15 + 4 * h) = heatN C A h) ∧ (∀ j, (∀ h, h < i → j ≠ 15 + 4 * h) → m1.2.1 10 j = m.2.1 10 j) ∧ m1.1 = m.1 ∧ (∀ j, j ≠ 10 → m1.2.1 j = m.2.1 j) ∧ m1.2.2 = m.2.2
theorem B2_step {C : AC} {A : AA} {m : MS} {i : Nat} {m1 : MS} (h : B2 C A m i m1) (v : Int32) (e : v = heatN C A i) : B2 C A m (i + 1) (mA m1 10 (15 + 4 * i) v) := by
  obtain ⟨h1, h2, h3, h4, h5⟩ := h
  refine ⟨fun h hh => ?_, fun j hj => ?_, h3, fun j hj => ?_, h5⟩
  · by_cases q : h = i
    · subst q; rw [mA_s, e]
    · rw [mA_n _ _ _ _ (by omega)]; exact h1 h (by omega)
  · rw [mA_n _ _ _ _ (hj i (by omega))]; exact h2 j fun h hh => hj h (by omega)
  · rw [← h4 j hj]; exact va_up_ne _ _ hj
theorem B2_same {C : AC} {A : AA} {m : MS} {i : Nat} {m1 : MS} (h : B2 C A m i m1) (e : m1.2.1 10 (15 + 4 * i) = heatN C A i) : B2 C A m (i + 1) m1 := by
  obtain ⟨h1, h2, h3, h4, h5⟩ := h
  refine ⟨fun h hh => ?_, fun j hj => ?_, h3, h4, h5⟩
  · by_cases q : h = i
    · subst q; exact e
    · exact h1 h (by omega)
  · exact h2 j fun h hh => hj h (by omega)
theorem M_burnL1 (k : Nat) (d : AH) (x : XS) (m : MS) (C : AC) (A : AA) (hC : VC C m) (hA : VA C A m) : ∀ (r i : Nat) (m1 : MS), i + r = C.1 → B1 C A m i m1 → ∃ m', evR T_X4_burns (callR (k + 1)) 7 ([(0, .ref 153), (1, .int (nI i))], [], P d x m1) = evR T_X4_burns (callR (k + 1)) 105 ([(0, .ref 153), (1, .int 0)], [], P d x m') ∧ B1 C A m C.1 m'
  | 0, i, m1, hi, s1 => by
    have e : i = C.1 := by omega
    subst e
    have h3 : m1.2.1 10 3 = nI C.1 := by rw [s1.2.1 3 (by omega)]; exact hC.1.1
    refine ⟨m1, ?_, s1⟩
    rw [e_X4_burns_7]
    simp (disch := omega) only [e_X4_burns_0, e_X4_burns_17, e_X4_burns_30, e_X4_burns_38, e_X4_burns_43, e_X4_burns_78, e_X4_burns_86, e_X4_burns_92, e_X4_burns_93, e_X4_burns_103, e_X4_burns_115, e_X4_burns_132, e_X4_burns_142, e_X4_burns_151, e_X4_burns_169, e_X4_burns_173, e_X4_burns_174, e_X4_burns_179, e_X4_burns_196, e_X4_burns_203, e_X4_burns_209, c_X4_burns, cond_true, cond_false, Option.bind_some, rI_s, rL_s, rR_s, rV_s, cnd_d, cnd_ne, cnd_eq, bI_d0, bI_t0, ite_not, decide_eq_false_iff_not, decide_eq_true_eq, lg_cmp_ge, lg_cmp_le, lg_cmp_gt, lg_cmp_lt, lg_cmp_eq, okb_1, okb_0, okb_b, li_2, li_3, li_4, li_5, li_6, li_7, li_8, li_9, li_10, li_11, li_12, li_13, li_14, li_15, li_16, li_18, li_20, li_22, li_24, li_25, li_26, li_28, li_32, li_38, li_40, li_43, li_44, li_45, li_46, li_47, li_48, li_49, li_50, li_54, li_56, li_59, li_60, li_61, li_64, li_91, li_93, li_99, li_100, li_111, li_112, li_117, li_122, li_123, li_131, li_132, li_200, li_255, li_256, li_400, li_560, li_9999, li_10000, li_99999, li_65536, pk_mul, nI_add, nI_1, neg_lt0, neg_le0, nI_nn, nI_nlt0, isO_M, lm_1, sm_1, lm_2, sm_2, lm_3, sm_3, lm_4, sm_4, lm_5, sm_5, lm_6, sm_6, lm_7, sm_7, lm_8, sm_8, lm_9, sm_9, lm_10, sm_10, lm_11, sm_11, lm_12, sm_12, lm_13, sm_13, lm_14, sm_14, lm_15, sm_15, lm_16, sm_16, lm_17, sm_17, lm_18, sm_18, lm_19, sm_19, lm_20, sm_20, lm_21, sm_21, rm_0, rm_1, wm_1, rm_2, wm_2, rm_3, rm_4, rm_5, rm_6, rm_7, rm_8, wm_8, rm_9, wm_9, rm_10, wm_10, rm_11, wm_11, rm_12, wm_12, rm_13, wm_13, rm_14, wm_14, rm_15, rm_16, wm_16, rm_17, wm_17, rm_18, rm_19, wm_19, rm_20, rm_21, rm_22, wm_22, rm_23, wm_23, rm_24, rm_25, wm_25, rm_26, wm_26, rm_27, wm_27, rm_28, wm_28, rm_29, wm_29, rm_30, rm_31, wm_31, rm_32, rm_33, rm_34, wm_34, rm_35, rm_36, rm_37, rm_38, wm_38, rm_39, rm_40, rm_41, rm_42, h3, le_rT, if_true]
  | r + 1, i, m1, hi, s1 => by
    have h6 := hC.1.2
    obtain ⟨b0, b1, b2, b3⟩ := hA.1 i (by omega)
    obtain ⟨g1, g2, g3, g4, g5, g6⟩ := id s1
    have h3 : m1.2.1 10 3 = nI C.1 := by rw [g2 3 (by omega)]; exact hC.1.1
    have h2 : m1.2.1 10 2 = C.2.2.2.1 := by rw [g2 2 (by omega)]; exact hC.2.2.2.1
    have w0 : m1.2.1 10 (14 + 4 * i) = A.1 0 i := by rw [g2 _ (by omega)]; exact b0
    have w1 : m1.2.1 10 (15 + 4 * i) = A.1 1 i := by rw [g2 _ (by omega)]; exact b1
    have hB : B1 C A m (i + 1) (mF (mA m1 10 (14 + 4 * i) (A.1 0 i - mnA A i)) 28 (orI (leapB C A) i ||| leapB C A i)) := by
      refine ⟨fun h hh => ?_, fun j hj => ?_, mF_s _ _ _, fun k hk => ?_, fun j hj => ?_, g6⟩
      · rw [mF_2]
        by_cases q : h = i
        · subst q; rw [mA_s]
        · rw [mA_n _ _ _ _ (by omega)]; exact g1 h (by omega)
      · rw [mF_2, mA_n _ _ _ _ (hj i (by omega))]; exact g2 j fun h hh => hj h (by omega)
      · rw [mF_n _ _ _ _ hk, mA_1]; exact g4 k hk
      · rw [← g5 j hj]; exact va_up_ne _ _ hj
    obtain ⟨m', e', s'⟩ := M_burnL1 k d x m C A hC hA r (i + 1) _ (by omega) hB
    refine ⟨m', ?_, s'⟩
    rw [← e', e_X4_burns_7]
    have hle : ∀ a b : Int32, (a ≤ b) = ¬ b < a := fun a b => propext Int32.not_lt.symm
    have hlt : ∀ a b : Int32, (a < b) = ¬ b ≤ a := fun a b => propext Int32.not_le.symm
    have hst : ∀ v : Int32, stI (P d x m1) 163 0 (nI (14 + 4 * i)) v = some (P d x (mA m1 10 (14 + 4 * i) v)) := fun v => sm_10 d x m1 _ v (by omega)
    have key : evR T_X4_burns (callR (k + 1)) 43 ([(0, .ref 153), (1, .int (nI i))], [.int (mnA A i)], P d x m1) = evR T_X4_burns (callR (k + 1)) 7 ([(0, .ref 153), (1, .int (nI (i + 1)))], [], P d x (mF (mA m1 10 (14 + 4 * i) (A.1 0 i - mnA A i)) 28 (orI (leapB C A) i ||| leapB C A i))) := by
      simp (disch := omega) only [e_X4_burns_43, e_X4_burns_78, e_X4_burns_86, e_X4_burns_92, e_X4_burns_93, c_X4_burns, cond_true, cond_false, Option.bind_some, rI_s, rL_s, rR_s, rV_s, cnd_d, cnd_ne, cnd_eq, bI_d0, bI_t0, ite_not, decide_eq_false_iff_not, decide_eq_true_eq, lg_cmp_ge, lg_cmp_le, lg_cmp_gt, lg_cmp_lt, lg_cmp_eq, okb_1, okb_0, okb_b, li_2, li_3, li_4, li_5, li_6, li_7, li_8, li_9, li_10, li_11, li_12, li_13, li_14, li_15, li_16, li_18, li_20, li_22, li_24, li_25, li_26, li_28, li_32, li_38, li_40, li_43, li_44, li_45, li_46, li_47, li_48, li_49, li_50, li_54, li_56, li_59, li_60, li_61, li_64, li_91, li_93, li_99, li_100, li_111, li_112, li_117, li_122, li_123, li_131, li_132, li_200, li_255, li_256, li_400, li_560, li_9999, li_10000, li_99999, li_65536, pk_mul, nI_add, nI_1, neg_lt0, neg_le0, nI_nn, nI_nlt0, isO_M, lm_1, sm_1, lm_2, sm_2, lm_3, sm_3, lm_4, sm_4, lm_5, sm_5, lm_6, sm_6, lm_7, sm_7, lm_8, sm_8, lm_9, sm_9, lm_10, sm_10, lm_11, sm_11, lm_12, sm_12, lm_13, sm_13, lm_14, sm_14, lm_15, sm_15, lm_16, sm_16, lm_17, sm_17, lm_18, sm_18, lm_19, sm_19, lm_20, sm_20, lm_21, sm_21, rm_0, rm_1, wm_1, rm_2, wm_2, rm_3, rm_4, rm_5, rm_6, rm_7, rm_8, wm_8, rm_9, wm_9, rm_10, wm_10, rm_11, wm_11, rm_12, wm_12, rm_13, wm_13, rm_14, wm_14, rm_15, rm_16, wm_16, rm_17, wm_17, rm_18, rm_19, wm_19, rm_20, rm_21, rm_22, wm_22, rm_23, wm_23, rm_24, rm_25, wm_25, rm_26, wm_26, rm_27, wm_27, rm_28, wm_28, rm_29, wm_29, rm_30, rm_31, wm_31, rm_32, rm_33, rm_34, wm_34, rm_35, rm_36, rm_37, rm_38, wm_38, rm_39, rm_40, rm_41, rm_42, M_heatOf, M_worthOf, w0, w1, mA_s, mA_n, mA_1, g3, h2]
      unfold leapB
      by_cases c1 : C.2.2.2.1 ≤ A.1 1 i
      · rw [if_neg (show ¬ A.1 1 i < C.2.2.2.1 from Int32.not_lt.mpr c1)]
        by_cases c2 : 0 < A.1 0 i - mnA A i
        · rw [if_neg (show ¬ A.1 0 i - mnA A i ≤ 0 from Int32.not_le.mpr c2), if_pos ⟨c2, c1⟩]
        · rw [if_pos (show A.1 0 i - mnA A i ≤ 0 from Int32.not_lt.mp c2), if_neg (fun h => c2 h.1)]
      · rw [if_pos (show A.1 1 i < C.2.2.2.1 from Int32.not_le.mp c1), if_neg (fun h => c1 h.2)]
    rw [← key]
    simp (disch := omega) only [e_X4_burns_17, e_X4_burns_30, e_X4_burns_38, c_X4_burns, cond_true, cond_false, Option.bind_some, rI_s, rL_s, rR_s, rV_s, cnd_d, cnd_ne, cnd_eq, bI_d0, bI_t0, ite_not, decide_eq_false_iff_not, decide_eq_true_eq, lg_cmp_ge, lg_cmp_le, lg_cmp_gt, lg_cmp_lt, lg_cmp_eq, okb_1, okb_0, okb_b, li_2, li_3, li_4, li_5, li_6, li_7, li_8, li_9, li_10, li_11, li_12, li_13, li_14, li_15, li_16, li_18, li_20, li_22, li_24, li_25, li_26, li_28, li_32, li_38, li_40, li_43, li_44, li_45, li_46, li_47, li_48, li_49, li_50, li_54, li_56, li_59, li_60, li_61, li_64, li_91, li_93, li_99, li_100, li_111, li_112, li_117, li_122, li_123, li_131, li_132, li_200, li_255, li_256, li_400, li_560, li_9999, li_10000, li_99999, li_65536, pk_mul, nI_add, nI_1, neg_lt0, neg_le0, nI_nn, nI_nlt0, isO_M, lm_1, sm_1, lm_2, sm_2, lm_3, sm_3, lm_4, sm_4, lm_5, sm_5, lm_6, sm_6, lm_7, sm_7, lm_8, sm_8, lm_9, sm_9, lm_10, sm_10, lm_11, sm_11, lm_12, sm_12, lm_13, sm_13, lm_14, sm_14, lm_15, sm_15, lm_16, sm_16, lm_17, sm_17, lm_18, sm_18, lm_19, sm_19, lm_20, sm_20, lm_21, sm_21, rm_0, rm_1, wm_1, rm_2, wm_2, rm_3, rm_4, rm_5, rm_6, rm_7, rm_8, wm_8, rm_9, wm_9, rm_10, wm_10, rm_11, wm_11, rm_12, wm_12, rm_13, wm_13, rm_14, wm_14, rm_15, rm_16, wm_16, rm_17, wm_17, rm_18, rm_19, wm_19, rm_20, rm_21, rm_22, wm_22, rm_23, wm_23, rm_24, rm_25, wm_25, rm_26, wm_26, rm_27, wm_27, rm_28, wm_28, rm_29, wm_29, rm_30, rm_31, wm_31, rm_32, rm_33, rm_34, wm_34, rm_35, rm_36, rm_37, rm_38, wm_38, rm_39, rm_40, rm_41, rm_42, h3, nI_leP, if_neg (show ¬ C.1 ≤ i by omega), M_heatOf, M_worthOf, w0, w1]
    unfold mnA
    by_cases c : A.1 1 i < A.1 0 i
    · rw [if_neg (show ¬ A.1 0 i ≤ A.1 1 i from Int32.not_le.mpr c), if_pos c]
    · rw [if_pos (show A.1 0 i ≤ A.1 1 i from Int32.not_lt.mp c), if_neg c]
theorem M_burnL2 (k : Nat) (d : AH) (x : XS) (m : MS) (C : AC) (A : AA) (h6 : C.1 ≤ 6) (h3 : m.2.1 10 3 = nI C.1) (hw : ∀ h, h < C.1 → m.2.1 10 (14 + 4 * h) = A.1 0 h - mnA A h) (hh : ∀ h, h < C.1 → m.2.1 10 (15 + 4 * h) = A.1 1 h ∧ 0 ≤ A.1 1 h) (hb : ∀ h, h < C.1 → m.2.1 10 (38 + h) = C.2.2.1 h) (hl : m.1 28 = orI (leapB C A) C.1) : ∀ (r i : Nat) (m1 : MS), i + r = C.1 → B2 C A m i m1 → ∃ m', evR T_X4_burns (callR (k + 1)) 105 ([(0, .ref 153), (1, .int (nI i))], [], P d x m1) = some (.inl none, P d x m') ∧ B2 C A m C.1 m'
  | 0, i, m1, hi, s1 => by
    have e : i = C.1 := by omega
    subst e
    have h3' : m1.2.1 10 3 = nI C.1 := by rw [s1.2.1 3 (by omega)]; exact h3
    refine ⟨m1, ?_, s1⟩
    rw [e_X4_burns_105]
    simp (disch := omega) only [e_X4_burns_0, e_X4_burns_17, e_X4_burns_30, e_X4_burns_38, e_X4_burns_43, e_X4_burns_78, e_X4_burns_86, e_X4_burns_92, e_X4_burns_93, e_X4_burns_103, e_X4_burns_115, e_X4_burns_132, e_X4_burns_142, e_X4_burns_151, e_X4_burns_169, e_X4_burns_173, e_X4_burns_174, e_X4_burns_179, e_X4_burns_196, e_X4_burns_203, e_X4_burns_209, c_X4_burns, cond_true, cond_false, Option.bind_some, rI_s, rL_s, rR_s, rV_s, cnd_d, cnd_ne, cnd_eq, bI_d0, bI_t0, ite_not, decide_eq_false_iff_not, decide_eq_true_eq, lg_cmp_ge, lg_cmp_le, lg_cmp_gt, lg_cmp_lt, lg_cmp_eq, okb_1, okb_0, okb_b, li_2, li_3, li_4, li_5, li_6, li_7, li_8, li_9, li_10, li_11, li_12, li_13, li_14, li_15, li_16, li_18, li_20, li_22, li_24, li_25, li_26, li_28, li_32, li_38, li_40, li_43, li_44, li_45, li_46, li_47, li_48, li_49, li_50, li_54, li_56, li_59, li_60, li_61, li_64, li_91, li_93, li_99, li_100, li_111, li_112, li_117, li_122, li_123, li_131, li_132, li_200, li_255, li_256, li_400, li_560, li_9999, li_10000, li_99999, li_65536, pk_mul, nI_add, nI_1, neg_lt0, neg_le0, nI_nn, nI_nlt0, isO_M, lm_1, sm_1, lm_2, sm_2, lm_3, sm_3, lm_4, sm_4, lm_5, sm_5, lm_6, sm_6, lm_7, sm_7, lm_8, sm_8, lm_9, sm_9, lm_10, sm_10, lm_11, sm_11, lm_12, sm_12, lm_13, sm_13, lm_14, sm_14, lm_15, sm_15, lm_16, sm_16, lm_17, sm_17, lm_18, sm_18, lm_19, sm_19, lm_20, sm_20, lm_21, sm_21, rm_0, rm_1, wm_1, rm_2, wm_2, rm_3, rm_4, rm_5, rm_6, rm_7, rm_8, wm_8, rm_9, wm_9, rm_10, wm_10, rm_11, wm_11, rm_12, wm_12, rm_13, wm_13, rm_14, wm_14, rm_15, rm_16, wm_16, rm_17, wm_17, rm_18, rm_19, wm_19, rm_20, rm_21, rm_22, wm_22, rm_23, wm_23, rm_24, rm_25, wm_25, rm_26, wm_26, rm_27, wm_27, rm_28, wm_28, rm_29, wm_29, rm_30, rm_31, wm_31, rm_32, rm_33, rm_34, wm_34, rm_35, rm_36, rm_37, rm_38, wm_38, rm_39, rm_40, rm_41, rm_42, h3', le_rT, if_true]
  | r + 1, i, m1, hi, s1 => by
    obtain ⟨g1, g2, g3, g4, g5⟩ := id s1
    have h3' : m1.2.1 10 3 = nI C.1 := by rw [g2 3 (by omega)]; exact h3
    have w0 : m1.2.1 10 (14 + 4 * i) = A.1 0 i - mnA A i := by rw [g2 _ (by omega)]; exact hw i (by omega)
    have w1 : m1.2.1 10 (15 + 4 * i) = A.1 1 i := by rw [g2 _ (by omega)]; exact (hh i (by omega)).1
    have wb : m1.2.1 10 (38 + i) = C.2.2.1 i := by rw [g2 _ (by omega)]; exact hb i (by omega)
    have wl : m1.1 28 = orI (leapB C A) C.1 := by rw [g3]; exact hl
    have n15 : 14 + 4 * i + 1 = 15 + 4 * i := by omega
    have hz := (hh i (by omega)).2
    rw [e_X4_burns_105]
    simp (disch := omega) only [e_X4_burns_115, cond_true, cond_false, Option.bind_some, rI_s, rL_s, rR_s, rV_s, cnd_d, cnd_ne, cnd_eq, bI_d0, bI_t0, ite_not, decide_eq_false_iff_not, decide_eq_true_eq, lg_cmp_ge, lg_cmp_le, lg_cmp_gt, lg_cmp_lt, lg_cmp_eq, okb_1, okb_0, okb_b, li_2, li_3, li_4, li_5, li_6, li_7, li_8, li_9, li_10, li_11, li_12, li_13, li_14, li_15, li_16, li_18, li_20, li_22, li_24, li_25, li_26, li_28, li_32, li_38, li_40, li_43, li_44, li_45, li_46, li_47, li_48, li_49, li_50, li_54, li_56, li_59, li_60, li_61, li_64, li_91, li_93, li_99, li_100, li_111, li_112, li_117, li_122, li_123, li_131, li_132, li_200, li_255, li_256, li_400, li_560, li_9999, li_10000, li_99999, li_65536, pk_mul, nI_add, nI_1, neg_lt0, neg_le0, nI_nn, nI_nlt0, isO_M, lm_1, sm_1, lm_2, sm_2, lm_3, sm_3, lm_4, sm_4, lm_5, sm_5, lm_6, sm_6, lm_7, sm_7, lm_8, sm_8, lm_9, sm_9, lm_10, sm_10, lm_11, sm_11, lm_12, sm_12, lm_13, sm_13, lm_14, sm_14, lm_15, sm_15, lm_16, sm_16, lm_17, sm_17, lm_18, sm_18, lm_19, sm_19, lm_20, sm_20, lm_21, sm_21, rm_0, rm_1, wm_1, rm_2, wm_2, rm_3, rm_4, rm_5, rm_6, rm_7, rm_8, wm_8, rm_9, wm_9, rm_10, wm_10, rm_11, wm_11, rm_12, wm_12, rm_13, wm_13, rm_14, wm_14, rm_15, rm_16, wm_16, rm_17, wm_17, rm_18, rm_19, wm_19, rm_20, rm_21, rm_22, wm_22, rm_23, wm_23, rm_24, rm_25, wm_25, rm_26, wm_26, rm_27, wm_27, rm_28, wm_28, rm_29, wm_29, rm_30, rm_31, wm_31, rm_32, rm_33, rm_34, wm_34, rm_35, rm_36, rm_37, rm_38, wm_38, rm_39, rm_40, rm_41, rm_42, h3', nI_leP, if_neg (show ¬ C.1 ≤ i by omega), M_worthOf, w0, n15]
    by_cases c0 : A.1 0 i - mnA A i = 0
    · have hv : heatN C A i = 0 := by unfold heatN; rw [if_pos c0]
      obtain ⟨m', e', s'⟩ := M_burnL2 k d x m C A h6 h3 hw hh hb hl r (i + 1) _ (by omega) (B2_step s1 0 hv.symm)
      refine ⟨m', ?_, s'⟩
      rw [← e', if_pos c0]
      simp (disch := omega) only [e_X4_burns_0, e_X4_burns_17, e_X4_burns_30, e_X4_burns_38, e_X4_burns_43, e_X4_burns_78, e_X4_burns_86, e_X4_burns_92, e_X4_burns_93, e_X4_burns_103, e_X4_burns_115, e_X4_burns_132, e_X4_burns_142, e_X4_burns_151, e_X4_burns_169, e_X4_burns_173, e_X4_burns_174, e_X4_burns_179, e_X4_burns_196, e_X4_burns_203, e_X4_burns_209, c_X4_burns, cond_true, cond_false, Option.bind_some, rI_s, rL_s, rR_s, rV_s, cnd_d, cnd_ne, cnd_eq, bI_d0, bI_t0, ite_not, decide_eq_false_iff_not, decide_eq_true_eq, lg_cmp_ge, lg_cmp_le, lg_cmp_gt, lg_cmp_lt, lg_cmp_eq, okb_1, okb_0, okb_b, li_2, li_3, li_4, li_5, li_6, li_7, li_8, li_9, li_10, li_11, li_12, li_13, li_14, li_15, li_16, li_18, li_20, li_22, li_24, li_25, li_26, li_28, li_32, li_38, li_40, li_43, li_44, li_45, li_46, li_47, li_48, li_49, li_50, li_54, li_56, li_59, li_60, li_61, li_64, li_91, li_93, li_99, li_100, li_111, li_112, li_117, li_122, li_123, li_131, li_132, li_200, li_255, li_256, li_400, li_560, li_9999, li_10000, li_99999, li_65536, pk_mul, nI_add, nI_1, neg_lt0, neg_le0, nI_nn, nI_nlt0, isO_M, lm_1, sm_1, lm_2, sm_2, lm_3, sm_3, lm_4, sm_4, lm_5, sm_5, lm_6, sm_6, lm_7, sm_7, lm_8, sm_8, lm_9, sm_9, lm_10, sm_10, lm_11, sm_11, lm_12, sm_12, lm_13, sm_13, lm_14, sm_14, lm_15, sm_15, lm_16, sm_16, lm_17, sm_17, lm_18, sm_18, lm_19, sm_19, lm_20, sm_20, lm_21, sm_21, rm_0, rm_1, wm_1, rm_2, wm_2, rm_3, rm_4, rm_5, rm_6, rm_7, rm_8, wm_8, rm_9, wm_9, rm_10, wm_10, rm_11, wm_11, rm_12, wm_12, rm_13, wm_13, rm_14, wm_14, rm_15, rm_16, wm_16, rm_17, wm_17, rm_18, rm_19, wm_19, rm_20, rm_21, rm_22, wm_22, rm_23, wm_23, rm_24, rm_25, wm_25, rm_26, wm_26, rm_27, wm_27, rm_28, wm_28, rm_29, wm_29, rm_30, rm_31, wm_31, rm_32, rm_33, rm_34, wm_34, rm_35, rm_36, rm_37, rm_38, wm_38, rm_39, rm_40, rm_41, rm_42]
    · rw [if_neg c0]
      by_cases c1 : 0 < A.1 1 i
      · by_cases c2 : A.1 1 i < 9
        · have hv : heatN C A i = A.1 1 i + 1 := by unfold heatN; rw [if_neg c0, if_pos c1, if_pos c2]
          obtain ⟨m', e', s'⟩ := M_burnL2 k d x m C A h6 h3 hw hh hb hl r (i + 1) _ (by omega) (B2_step s1 _ hv.symm)
          refine ⟨m', ?_, s'⟩
          rw [← e']
          have c2' : ¬ nI 9 ≤ A.1 1 i := Int32.not_le.mpr c2
          simp (disch := omega) only [e_X4_burns_0, e_X4_burns_17, e_X4_burns_30, e_X4_burns_38, e_X4_burns_43, e_X4_burns_78, e_X4_burns_86, e_X4_burns_92, e_X4_burns_93, e_X4_burns_103, e_X4_burns_115, e_X4_burns_132, e_X4_burns_142, e_X4_burns_151, e_X4_burns_169, e_X4_burns_173, e_X4_burns_174, e_X4_burns_179, e_X4_burns_196, e_X4_burns_203, e_X4_burns_209, c_X4_burns, cond_true, cond_false, Option.bind_some, rI_s, rL_s, rR_s, rV_s, cnd_d, cnd_ne, cnd_eq, bI_d0, bI_t0, ite_not, decide_eq_false_iff_not, decide_eq_true_eq, lg_cmp_ge, lg_cmp_le, lg_cmp_gt, lg_cmp_lt, lg_cmp_eq, okb_1, okb_0, okb_b, li_2, li_3, li_4, li_5, li_6, li_7, li_8, li_9, li_10, li_11, li_12, li_13, li_14, li_15, li_16, li_18, li_20, li_22, li_24, li_25, li_26, li_28, li_32, li_38, li_40, li_43, li_44, li_45, li_46, li_47, li_48, li_49, li_50, li_54, li_56, li_59, li_60, li_61, li_64, li_91, li_93, li_99, li_100, li_111, li_112, li_117, li_122, li_123, li_131, li_132, li_200, li_255, li_256, li_400, li_560, li_9999, li_10000, li_99999, li_65536, pk_mul, nI_add, nI_1, neg_lt0, neg_le0, nI_nn, nI_nlt0, isO_M, lm_1, sm_1, lm_2, sm_2, lm_3, sm_3, lm_4, sm_4, lm_5, sm_5, lm_6, sm_6, lm_7, sm_7, lm_8, sm_8, lm_9, sm_9, lm_10, sm_10, lm_11, sm_11, lm_12, sm_12, lm_13, sm_13, lm_14, sm_14, lm_15, sm_15, lm_16, sm_16, lm_17, sm_17, lm_18, sm_18, lm_19, sm_19, lm_20, sm_20, lm_21, sm_21, rm_0, rm_1, wm_1, rm_2, wm_2, rm_3, rm_4, rm_5, rm_6, rm_7, rm_8, wm_8, rm_9, wm_9, rm_10, wm_10, rm_11, wm_11, rm_12, wm_12, rm_13, wm_13, rm_14, wm_14, rm_15, rm_16, wm_16, rm_17, wm_17, rm_18, rm_19, wm_19, rm_20, rm_21, rm_22, wm_22, rm_23, wm_23, rm_24, rm_25, wm_25, rm_26, wm_26, rm_27, wm_27, rm_28, wm_28, rm_29, wm_29, rm_30, rm_31, wm_31, rm_32, rm_33, rm_34, wm_34, rm_35, rm_36, rm_37, rm_38, wm_38, rm_39, rm_40, rm_41, rm_42, w1, if_neg (show ¬ A.1 1 i ≤ 0 from Int32.not_le.mpr c1), c2', if_false]
        · have hv : heatN C A i = A.1 1 i := by unfold heatN; rw [if_neg c0, if_pos c1, if_neg c2]
          obtain ⟨m', e', s'⟩ := M_burnL2 k d x m C A h6 h3 hw hh hb hl r (i + 1) _ (by omega) (B2_step s1 (A.1 1 i + 0) (by rw [hv, Int32.add_zero]))
          refine ⟨m', ?_, s'⟩
          rw [← e']
          have c2' : nI 9 ≤ A.1 1 i := Int32.not_lt.mp c2
          simp (disch := omega) only [e_X4_burns_0, e_X4_burns_17, e_X4_burns_30, e_X4_burns_38, e_X4_burns_43, e_X4_burns_78, e_X4_burns_86, e_X4_burns_92, e_X4_burns_93, e_X4_burns_103, e_X4_burns_115, e_X4_burns_132, e_X4_burns_142, e_X4_burns_151, e_X4_burns_169, e_X4_burns_173, e_X4_burns_174, e_X4_burns_179, e_X4_burns_196, e_X4_burns_203, e_X4_burns_209, c_X4_burns, cond_true, cond_false, Option.bind_some, rI_s, rL_s, rR_s, rV_s, cnd_d, cnd_ne, cnd_eq, bI_d0, bI_t0, ite_not, decide_eq_false_iff_not, decide_eq_true_eq, lg_cmp_ge, lg_cmp_le, lg_cmp_gt, lg_cmp_lt, lg_cmp_eq, okb_1, okb_0, okb_b, li_2, li_3, li_4, li_5, li_6, li_7, li_8, li_9, li_10, li_11, li_12, li_13, li_14, li_15, li_16, li_18, li_20, li_22, li_24, li_25, li_26, li_28, li_32, li_38, li_40, li_43, li_44, li_45, li_46, li_47, li_48, li_49, li_50, li_54, li_56, li_59, li_60, li_61, li_64, li_91, li_93, li_99, li_100, li_111, li_112, li_117, li_122, li_123, li_131, li_132, li_200, li_255, li_256, li_400, li_560, li_9999, li_10000, li_99999, li_65536, pk_mul, nI_add, nI_1, neg_lt0, neg_le0, nI_nn, nI_nlt0, isO_M, lm_1, sm_1, lm_2, sm_2, lm_3, sm_3, lm_4, sm_4, lm_5, sm_5, lm_6, sm_6, lm_7, sm_7, lm_8, sm_8, lm_9, sm_9, lm_10, sm_10, lm_11, sm_11, lm_12, sm_12, lm_13, sm_13, lm_14, sm_14, lm_15, sm_15, lm_16, sm_16, lm_17, sm_17, lm_18, sm_18, lm_19, sm_19, lm_20, sm_20, lm_21, sm_21, rm_0, rm_1, wm_1, rm_2, wm_2, rm_3, rm_4, rm_5, rm_6, rm_7, rm_8, wm_8, rm_9, wm_9, rm_10, wm_10, rm_11, wm_11, rm_12, wm_12, rm_13, wm_13, rm_14, wm_14, rm_15, rm_16, wm_16, rm_17, wm_17, rm_18, rm_19, wm_19, rm_20, rm_21, rm_22, wm_22, rm_23, wm_23, rm_24, rm_25, wm_25, rm_26, wm_26, rm_27, wm_27, rm_28, wm_28, rm_29, wm_29, rm_30, rm_31, wm_31, rm_32, rm_33, rm_34, wm_34, rm_35, rm_36, rm_37, rm_38, wm_38, rm_39, rm_40, rm_41, rm_42, w1, if_neg (show ¬ A.1 1 i ≤ 0 from Int32.not_le.mpr c1), c2', if_true]
      · by_cases c2 : C.2.2.1 i &&& orI (leapB C A) C.1 = 0
        · have hv : heatN C A i = 0 := by unfold heatN; rw [if_neg c0, if_neg c1, if_pos c2]
          have hx : A.1 1 i = 0 := by rw [i_ne0 hz]; exact c1
          obtain ⟨m', e', s'⟩ := M_burnL2 k d x m C A h6 h3 hw hh hb hl r (i + 1) _ (by omega) (B2_same s1 (by rw [w1, hv, hx]))
          refine ⟨m', ?_, s'⟩
          rw [← e']
          simp (disch := omega) only [e_X4_burns_0, e_X4_burns_17, e_X4_burns_30, e_X4_burns_38, e_X4_burns_43, e_X4_burns_78, e_X4_burns_86, e_X4_burns_92, e_X4_burns_93, e_X4_burns_103, e_X4_burns_115, e_X4_burns_132, e_X4_burns_142, e_X4_burns_151, e_X4_burns_169, e_X4_burns_173, e_X4_burns_174, e_X4_burns_179, e_X4_burns_196, e_X4_burns_203, e_X4_burns_209, c_X4_burns, cond_true, cond_false, Option.bind_some, rI_s, rL_s, rR_s, rV_s, cnd_d, cnd_ne, cnd_eq, bI_d0, bI_t0, ite_not, decide_eq_false_iff_not, decide_eq_true_eq, lg_cmp_ge, lg_cmp_le, lg_cmp_gt, lg_cmp_lt, lg_cmp_eq, okb_1, okb_0, okb_b, li_2, li_3, li_4, li_5, li_6, li_7, li_8, li_9, li_10, li_11, li_12, li_13, li_14, li_15, li_16, li_18, li_20, li_22, li_24, li_25, li_26, li_28, li_32, li_38, li_40, li_43, li_44, li_45, li_46, li_47, li_48, li_49, li_50, li_54, li_56, li_59, li_60, li_61, li_64, li_91, li_93, li_99, li_100, li_111, li_112, li_117, li_122, li_123, li_131, li_132, li_200, li_255, li_256, li_400, li_560, li_9999, li_10000, li_99999, li_65536, pk_mul, nI_add, nI_1, neg_lt0, neg_le0, nI_nn, nI_nlt0, isO_M, lm_1, sm_1, lm_2, sm_2, lm_3, sm_3, lm_4, sm_4, lm_5, sm_5, lm_6, sm_6, lm_7, sm_7, lm_8, sm_8, lm_9, sm_9, lm_10, sm_10, lm_11, sm_11, lm_12, sm_12, lm_13, sm_13, lm_14, sm_14, lm_15, sm_15, lm_16, sm_16, lm_17, sm_17, lm_18, sm_18, lm_19, sm_19, lm_20, sm_20, lm_21, sm_21, rm_0, rm_1, wm_1, rm_2, wm_2, rm_3, rm_4, rm_5, rm_6, rm_7, rm_8, wm_8, rm_9, wm_9, rm_10, wm_10, rm_11, wm_11, rm_12, wm_12, rm_13, wm_13, rm_14, wm_14, rm_15, rm_16, wm_16, rm_17, wm_17, rm_18, rm_19, wm_19, rm_20, rm_21, rm_22, wm_22, rm_23, wm_23, rm_24, rm_25, wm_25, rm_26, wm_26, rm_27, wm_27, rm_28, wm_28, rm_29, wm_29, rm_30, rm_31, wm_31, rm_32, rm_33, rm_34, wm_34, rm_35, rm_36, rm_37, rm_38, wm_38, rm_39, rm_40, rm_41, rm_42, w1, if_pos (show A.1 1 i ≤ 0 from Int32.not_lt.mp c1), wb, wl, c2, if_true]
        · have hv : heatN C A i = 1 := by unfold heatN; rw [if_neg c0, if_neg c1, if_neg c2]
          obtain ⟨m', e', s'⟩ := M_burnL2 k d x m C A h6 h3 hw hh hb hl r (i + 1) _ (by omega) (B2_step s1 1 hv.symm)
          refine ⟨m', ?_, s'⟩
          rw [← e']
          simp (disch := omega) only [e_X4_burns_0, e_X4_burns_17, e_X4_burns_30, e_X4_burns_38, e_X4_burns_43, e_X4_burns_78, e_X4_burns_86, e_X4_burns_92, e_X4_burns_93, e_X4_burns_103, e_X4_burns_115, e_X4_burns_132, e_X4_burns_142, e_X4_burns_151, e_X4_burns_169, e_X4_burns_173, e_X4_burns_174, e_X4_burns_179, e_X4_burns_196, e_X4_burns_203, e_X4_burns_209, c_X4_burns, cond_true, cond_false, Option.bind_some, rI_s, rL_s, rR_s, rV_s, cnd_d, cnd_ne, cnd_eq, bI_d0, bI_t0, ite_not, decide_eq_false_iff_not, decide_eq_true_eq, lg_cmp_ge, lg_cmp_le, lg_cmp_gt, lg_cmp_lt, lg_cmp_eq, okb_1, okb_0, okb_b, li_2, li_3, li_4, li_5, li_6, li_7, li_8, li_9, li_10, li_11, li_12, li_13, li_14, li_15, li_16, li_18, li_20, li_22, li_24, li_25, li_26, li_28, li_32, li_38, li_40, li_43, li_44, li_45, li_46, li_47, li_48, li_49, li_50, li_54, li_56, li_59, li_60, li_61, li_64, li_91, li_93, li_99, li_100, li_111, li_112, li_117, li_122, li_123, li_131, li_132, li_200, li_255, li_256, li_400, li_560, li_9999, li_10000, li_99999, li_65536, pk_mul, nI_add, nI_1, neg_lt0, neg_le0, nI_nn, nI_nlt0, isO_M, lm_1, sm_1, lm_2, sm_2, lm_3, sm_3, lm_4, sm_4, lm_5, sm_5, lm_6, sm_6, lm_7, sm_7, lm_8, sm_8, lm_9, sm_9, lm_10, sm_10, lm_11, sm_11, lm_12, sm_12, lm_13, sm_13, lm_14, sm_14, lm_15, sm_15, lm_16, sm_16, lm_17, sm_17, lm_18, sm_18, lm_19, sm_19, lm_20, sm_20, lm_21, sm_21, rm_0, rm_1, wm_1, rm_2, wm_2, rm_3, rm_4, rm_5, rm_6, rm_7, rm_8, wm_8, rm_9, wm_9, rm_10, wm_10, rm_11, wm_11, rm_12, wm_12, rm_13, wm_13, rm_14, wm_14, rm_15, rm_16, wm_16, rm_17, wm_17, rm_18, rm_19, wm_19, rm_20, rm_21, rm_22, wm_22, rm_23, wm_23, rm_24, rm_25, wm_25, rm_26, wm_26, rm_27, wm_27, rm_28, wm_28, rm_29, wm_29, rm_30, rm_31, wm_31, rm_32, rm_33, rm_34, wm_34, rm_35, rm_36, rm_37, rm_38, wm_38, rm_39, rm_40, rm_41, rm_42, w1, if_pos (show A.1 1 i ≤ 0 from Int32.not_lt.mp c1), wb, wl, c2, if_false]
theorem M_burns (k : Nat) (d : AH) (x : XS) (m : MS) (C : AC) (A : AA) (hz : ∀ h, h < C.1 → 0 ≤ A.1 1 h) (hC : VC C m) (hA : VA C A m) : ∃ m', callR (k + 2) n_X4_burns [.ref 153] (P d x m) = some (.inl none, P d x m') ∧ Fr m m' ∧ m'.1 29 = m.1 29 ∧ VA C (burnA C A) m' := by
  have h6 := hC.1.2
  have hB0 : B1 C A m 0 (mF m 28 0) := ⟨fun h hh => absurd hh (by omega), fun j _ => rfl, mF_s _ _ _, fun k hk => mF_n _ _ _ _ hk, fun j _ => rfl, rfl⟩
  obtain ⟨m1, e1, s1⟩ := M_burnL1 k d x m C A hC hA C.1 0 _ (by omega) hB0
  obtain ⟨f1, f2, f3, f4, f5, f6⟩ := s1
  obtain ⟨m2, e2, s2⟩ := M_burnL2 k d x m1 C A h6 (by rw [f2 3 (by omega)]; exact hC.1.1) f1 (fun h hh => ⟨by rw [f2 _ (by omega)]; exact (hA.1 h hh).2.1, hz h hh⟩) (fun h hh => by rw [f2 _ (by omega)]; exact hC.2.2.1 h hh) f3 C.1 0 m1 (by omega) ⟨fun h hh => absurd hh (by omega), fun j _ => rfl, rfl, fun j _ => rfl, rfl⟩
  obtain ⟨g1, g2, g3, g4, g5⟩ := s2
  have hn : ∀ j, (∀ h, h < C.1 → j ≠ 14 + 4 * h) → (∀ h, h < C.1 → j ≠ 15 + 4 * h) → m2.2.1 10 j = m.2.1 10 j := fun j a b => (g2 j b).trans (f2 j a)
  refine ⟨m2, ?_, ⟨fun j hj => (g4 j hj).trans (f5 j hj), fun i hi => hn i (by omega) (by omega), fun k a b c e => (congrFun g3 k).trans (f4 k c), by rw [g5, f6]⟩, (congrFun g3 29).trans (f4 29 (by omega)), ?_⟩
  · rw [← e2]
    rw [nI_0] at e1 ⊢
    rw [← e1]
    simp (disch := omega) only [e_X4_burns_0, c_X4_burns, cond_true, cond_false, Option.bind_some, rI_s, rL_s, rR_s, rV_s, cnd_d, cnd_ne, cnd_eq, bI_d0, bI_t0, ite_not, decide_eq_false_iff_not, decide_eq_true_eq, lg_cmp_ge, lg_cmp_le, lg_cmp_gt, lg_cmp_lt, lg_cmp_eq, okb_1, okb_0, okb_b, isO_M, lm_1, sm_1, lm_2, sm_2, lm_3, sm_3, lm_4, sm_4, lm_5, sm_5, lm_6, sm_6, lm_7, sm_7, lm_8, sm_8, lm_9, sm_9, lm_10, sm_10, lm_11, sm_11, lm_12, sm_12, lm_13, sm_13, lm_14, sm_14, lm_15, sm_15, lm_16, sm_16, lm_17, sm_17, lm_18, sm_18, lm_19, sm_19, lm_20, sm_20, lm_21, sm_21, rm_0, rm_1, wm_1, rm_2, wm_2, rm_3, rm_4, rm_5, rm_6, rm_7, rm_8, wm_8, rm_9, wm_9, rm_10, wm_10, rm_11, wm_11, rm_12, wm_12, rm_13, wm_13, rm_14, wm_14, rm_15, rm_16, wm_16, rm_17, wm_17, rm_18, rm_19, wm_19, rm_20, rm_21, rm_22, wm_22, rm_23, wm_23, rm_24, rm_25, wm_25, rm_26, wm_26, rm_27, wm_27, rm_28, wm_28, rm_29, wm_29, rm_30, rm_31, wm_31, rm_32, rm_33, rm_34, wm_34, rm_35, rm_36, rm_37, rm_38, wm_38, rm_39, rm_40, rm_41, rm_42]
  · obtain ⟨a1, ⟨a13, a10, aw⟩, a11, a12, ag, arow⟩ := id hA
    refine ⟨fun h hh => ?_, ⟨?_, ?_, ?_⟩, ?_, fun hx => ?_, ?_, ?_⟩
    · obtain ⟨b0, b1, b2, b3⟩ := a1 h hh
      refine ⟨?_, g1 h hh, ?_, ?_⟩
      · rw [g2 _ (by omega)]; exact f1 h hh
      · rw [hn _ (by omega) (by omega)]; exact b2
      · rw [hn _ (by omega) (by omega)]; exact b3
    · rw [hn _ (by omega) (by omega)]; exact a13
    · rw [hn _ (by omega) (by omega)]; exact a10
    · rw [hn _ (by omega) (by omega)]; exact aw
    · rw [hn _ (by omega) (by omega)]; exact a11
    · rw [hn _ (by omega) (by omega)]; exact a12 hx
    · show _ = va_up A.2.1 3 (A.2.1 3 + sumI (mnA A) C.1) 3
      rw [va_up_self, ← ag, g3, f4 27 (by omega)]
      have e1 : sumI (fun h => m2.2.1 10 (93 + 3 * h) - m2.2.1 10 (14 + 4 * h)) C.1 = sumI (fun h => m.2.1 10 (93 + 3 * h) - (m.2.1 10 (14 + 4 * h) - mnA A h)) C.1 := sumI_c fun i hi => by
        rw [hn _ (by omega) (by omega), g2 _ (by omega), f1 i hi, (a1 i hi).1]
      rw [e1, sumI_sub]
      grind
    · intro hs
      rw [g3, f4 26 (by omega)]
      exact arow hs
theorem burn_heat {C : AC} {A : AA} (h : Nat) (h0 : 0 ≤ A.1 1 h) (h9 : A.1 1 h ≤ 9) : 0 ≤ heatN C A h ∧ heatN C A h ≤ 9 := by
  unfold heatN
  split
  · decide
  · split
    next hp =>
      split
      next h8 =>
        obtain ⟨j, hj, e⟩ := nI_of2 (M := 9) (n := 9) rfl (Int32.not_lt.mpr h0) h9
        rw [e] at h8 ⊢
        have : j < 9 := (nI_ltI (by omega) (by omega)).mp h8
        exact ⟨by rw [nI_1]; exact nI_pos' (by omega), by rw [nI_1]; exact (nI_leI (a := j + 1) (b := 9) (by omega) (by omega)).mpr (by omega)⟩
      next => exact ⟨h0, h9⟩
    next =>
      split
      · decide
      · decide
theorem WA_go {C : AC} {A : AA} (hW : WA C A) : WA C (goA C A) := by
  have htg := tg_lt hW
  have hst : ∀ B : AA, WA C B → WA C (stepA B) := by
    intro B hB
    unfold stepA
    split
    · split
      next h => exact ⟨hB.1, hB.2.1, hB.2.2.1, fun _ => hB.2.2.2.1 (by assumption), hB.2.2.2.2⟩
      next h0 h => exact ⟨hB.1, hB.2.1, (hB.2.2.2.1 h0).2, fun hx => absurd hx h, hB.2.2.2.2⟩
    · exact hB
  unfold goA
  split
  · exact hst A hW
  · apply hst
    have hR : WA C (rowA A (tgA C A).2) := by
      refine ⟨hW.1, hW.2.1, hW.2.2.1, hW.2.2.2.1, fun q eq => ⟨?_, (hW.2.2.2.2 q eq).2⟩⟩
      show va_up A.2.2 2 (tgA C A).2 2 ≤ q.1
      rw [va_up_self]
      have hq := hW.2.2.2.2 q eq
      unfold tgA
      rw [eq]
      have := (nextR_lt (R := rA C A) (row := q.2) (k := C.1) (q.1 - A.2.2 2) (A.2.2 2) fun j hj => hq.2 j (by omega)).2.2
      show (nextR (rA C A) q.2 (q.1 - A.2.2 2) (A.2.2 2)).2 ≤ q.1
      omega
    unfold sendA
    split
    · exact hR
    next h eh =>
      split
      · exact hR
      · exact ⟨hR.1, hR.2.1, hR.2.2.1, fun _ => ⟨by show 1 ≤ h + 1; omega, by show h + 1 ≤ C.1; have := htg h eh; omega⟩, hR.2.2.2.2⟩
theorem WA_come {C : AC} {A : AA} (hW : WA C A) : WA C (comeA A).1 := by
  unfold comeA
  split
  · exact hW
  next hc =>
    refine ⟨fun h hh => ?_, hW.2.1, hW.2.2.1, hW.2.2.2.1, hW.2.2.2.2⟩
    show 0 ≤ va_up (A.1 1) _ _ h ∧ va_up (A.1 1) _ _ h ≤ 9
    have hz := hW.1 h hh
    by_cases e : h = A.2.2 0 - 1
    · rw [← e, va_up_self]
      split
      · decide
      next hn =>
        obtain ⟨j, hj, ej⟩ := nI_of2 (M := 9) (n := 9) rfl (Int32.not_lt.mpr hz.1) hz.2
        obtain ⟨w, hw, ew⟩ := nI_of (Int32.not_lt.mpr hW.2.1)
        refine ⟨Int32.not_lt.mp hn, ?_⟩
        rw [ej, ew] at hn ⊢
        by_cases hwj : w ≤ j
        · rw [pk_sub hwj]; exact (nI_leI (a := j - w) (b := 9) (by omega) (by omega)).mpr (by omega)
        · exfalso
          apply hn
          have e2 : nI j - nI w = -nI (w - j) := by
            have : nI w = nI j + nI (w - j) := by rw [nI_add, show j + (w - j) = w by omega]
            rw [this]; grind
          rw [e2, Int32.lt_iff_toInt_lt, sb_negT (by omega)]
          show -((w - j : Nat) : Int) < 0
          omega
    · rw [va_up_ne _ _ e]; exact hz
theorem WA_burn {C : AC} {A : AA} (h : WA C A) : WA C (burnA C A) := by
  obtain ⟨h1, h2, h3, h4, h5⟩ := h
  refine ⟨fun i hi => burn_heat i (h1 i hi).1 (h1 i hi).2, ?_, h3, ?_, h5⟩
  · rw [show (burnA C A).2.1 2 = A.2.1 2 by simp [burnA, va_up]]; exact h2
  · rw [show (burnA C A).2.1 0 = A.2.1 0 by simp [burnA, va_up]]; exact h4
theorem WA_tick {C : AC} {A : AA} (h : WA C A) : WA C (tickA A) := by
  obtain ⟨h1, h2, h3, h4, h5⟩ := h
  refine ⟨h1, ?_, h3, ?_, h5⟩
  · rw [show (tickA A).2.1 2 = A.2.1 2 by simp [tickA, va_up]]; exact h2
  · rw [show (tickA A).2.1 0 = A.2.1 0 by simp [tickA, va_up]]; exact h4
theorem WA_hour {C : AC} {A : AA} (hW : WA C A) : WA C (hourA C A) := WA_tick (WA_burn (WA_come (WA_go hW)))
theorem go_arr (C : AC) (A : AA) : (goA C A).1 = A.1 := by
  unfold goA stepA sendA rowA
  repeat' split
  all_goals rfl
theorem come_w (A : AA) : (comeA A).1.1 0 = A.1 0 := by
  unfold comeA
  split
  · rfl
  · simp [va_up]
theorem VA_tick {C : AC} {A : AA} {m : MS} (h : VA C A m) : VA C (tickA A) (mA m 10 10 (m.2.1 10 10 + 1)) := by
  obtain ⟨a1, ⟨a13, a10, aw⟩, a11, a12, ag, arow⟩ := h
  have t0 : (tickA A).2.1 0 = A.2.1 0 := by simp [tickA, va_up]
  have t1 : (tickA A).2.1 1 = A.2.1 1 + 1 := by simp [tickA, va_up]
  have t2 : (tickA A).2.1 2 = A.2.1 2 := by simp [tickA, va_up]
  have t3 : (tickA A).2.1 3 = A.2.1 3 := by simp [tickA, va_up]
  refine ⟨fun h hh => ?_, ⟨?_, ?_, ?_⟩, ?_, fun hx => ?_, ?_, arow⟩
  · simp (disch := omega) only [mA_n]; exact a1 h hh
  · rw [t0, mA_n _ _ _ _ (by omega)]; exact a13
  · rw [t1, mA_s, a10]
  · rw [t2, mA_n _ _ _ _ (by omega)]; exact aw
  · rw [mA_n _ _ _ _ (by omega)]; exact a11
  · rw [t0] at hx
    rw [mA_n _ _ _ _ (by omega)]; exact a12 hx
  · rw [t3, ← ag]
    congr 1
    exact sumI_c fun i _ => by simp (disch := omega) only [mA_n]
theorem M_passes (k : Nat) (d : AH) (x : XS) (m : MS) (C : AC) (A : AA) (hW : WA C A) (hC : VC C m) (hA : VA C A m) : ∃ m', callR (k + 7) n_X4_passes [.ref 153] (P d x m) = some (.inl (some (.int (lossA C A))), P d x m') ∧ Fr m m' ∧ m'.1 29 = cameA C A ∧ VA C (hourA C A) m' := by
  have h6 := hC.1.2
  obtain ⟨m1, e1, f1, v1⟩ := M_goes k d x m C A hW hC hA
  have hC1 := VC_fr hC f1
  have hW1 := WA_go hW
  obtain ⟨m2, e2, f2, v2⟩ := M_comes (k + 3) d x m1 C _ hW1 hC1 v1
  have hC2 := VC_fr hC1 f2
  have hW2 := WA_come hW1
  have v3 : VA C (comeA (goA C A)).1 (mF m2 29 (cameA C A)) := by
    obtain ⟨a1, a2, a11, a12, ag, arow⟩ := v2
    exact ⟨a1, a2, a11, a12, ag, arow⟩
  have hC3 : VC C (mF m2 29 (cameA C A)) := VC_fr hC2 (mF_Fr _ _ _ (by omega))
  obtain ⟨m4, e4, f4, c4, v4⟩ := M_burns (k + 4) d x (mF m2 29 (cameA C A)) C _ (fun h hh => (hW2.1 h hh).1) hC3 v3
  have hC4 := VC_fr hC3 f4
  have hC5 : VC C (mA m4 10 10 (m4.2.1 10 10 + 1)) := VC_fr hC4 (mA_Fr _ _ _ (by omega))
  have w1 := M_worthAll (k + 4) d x m C.1 h6 hC.1.1
  have w2 := M_worthAll (k + 4) d x (mA m4 10 10 (m4.2.1 10 10 + 1)) C.1 h6 hC5.1.1
  have hws : sumI (fun h => m.2.1 10 (14 + 4 * h)) C.1 = sumI ((comeA (goA C A)).1.1 0) C.1 := sumI_c fun i hi => by
    rw [(hA.1 i hi).1]
    rw [come_w, go_arr]
  have hws2 : sumI (fun h => (mA m4 10 10 (m4.2.1 10 10 + 1)).2.1 10 (14 + 4 * h)) C.1 = sumI (fun h => (comeA (goA C A)).1.1 0 h - mnA (comeA (goA C A)).1 h) C.1 := sumI_c fun i hi => by
    rw [mA_n _ _ _ _ (by omega), (v4.1 i hi).1]
    rfl
  refine ⟨mA m4 10 10 (m4.2.1 10 10 + 1), ?_, Fr_trans (Fr_trans (Fr_trans (Fr_trans f1 f2) (mF_Fr _ _ _ (by omega))) f4) (mA_Fr _ _ _ (by omega)), ?_, ?_⟩
  · simp (disch := omega) only [e_X4_passes_0, c_X4_passes, cond_true, cond_false, Option.bind_some, rI_s, rL_s, rR_s, rV_s, cnd_d, cnd_ne, cnd_eq, bI_d0, bI_t0, ite_not, decide_eq_false_iff_not, decide_eq_true_eq, lg_cmp_ge, lg_cmp_le, lg_cmp_gt, lg_cmp_lt, lg_cmp_eq, okb_1, okb_0, okb_b, isO_M, lm_1, sm_1, lm_2, sm_2, lm_3, sm_3, lm_4, sm_4, lm_5, sm_5, lm_6, sm_6, lm_7, sm_7, lm_8, sm_8, lm_9, sm_9, lm_10, sm_10, lm_11, sm_11, lm_12, sm_12, lm_13, sm_13, lm_14, sm_14, lm_15, sm_15, lm_16, sm_16, lm_17, sm_17, lm_18, sm_18, lm_19, sm_19, lm_20, sm_20, lm_21, sm_21, rm_0, rm_1, wm_1, rm_2, wm_2, rm_3, rm_4, rm_5, rm_6, rm_7, rm_8, wm_8, rm_9, wm_9, rm_10, wm_10, rm_11, wm_11, rm_12, wm_12, rm_13, wm_13, rm_14, wm_14, rm_15, rm_16, wm_16, rm_17, wm_17, rm_18, rm_19, wm_19, rm_20, rm_21, rm_22, wm_22, rm_23, wm_23, rm_24, rm_25, wm_25, rm_26, wm_26, rm_27, wm_27, rm_28, wm_28, rm_29, wm_29, rm_30, rm_31, wm_31, rm_32, rm_33, rm_34, wm_34, rm_35, rm_36, rm_37, rm_38, wm_38, rm_39, rm_40, rm_41, rm_42, li_2, li_3, li_4, li_5, li_6, li_7, li_8, li_9, li_10, li_11, li_12, li_13, li_14, li_15, li_16, li_18, li_20, li_22, li_24, li_25, li_26, li_28, li_32, li_38, li_40, li_43, li_44, li_45, li_46, li_47, li_48, li_49, li_50, li_54, li_56, li_59, li_60, li_61, li_64, li_91, li_93, li_99, li_100, li_111, li_112, li_117, li_122, li_123, li_131, li_132, li_200, li_255, li_256, li_400, li_560, li_9999, li_10000, li_99999, li_65536, pk_mul, nI_add, nI_1, neg_lt0, neg_le0, nI_nn, nI_nlt0, w1, e1, e2, show (comeA (goA C A)).2 = cameA C A from rfl, e4, w2, hws, hws2, sumI_sub2]
    rfl
  · rw [mA_1, c4, mF_s]
  · exact VA_tick v4
