/-! m: choice, going -/
theorem chF_s (R : Nat → Bool) (w : Nat → Int64) (h : Nat) : chF R w (h + 1) = if R h = true then (if (chF R w h).2 < w h then (some h, w h) else chF R w h) else chF R w h := rfl
theorem M_choiceL (k : Nat) (d : AH) (x : XS) (m : MS) (C : AC) (A : AA) (hp : A.2.2 0 ≤ C.1) (hC : VC C m) (hA : VA C A m) : ∀ (r i : Nat) (m1 : MS), i + r = C.1 → SM m m1 → ∃ m', evR T_X4_choice (callR (k + 4)) 7 ([(0, .ref 153), (1, .int (oI (chF (rA C A) (wA C A) i).1)), (2, .long (chF (rA C A) (wA C A) i).2), (4, .int (nI i))], [], P d x m1) = some (.inl (some (.int (oI (chF (rA C A) (wA C A) C.1).1))), P d x m') ∧ SM m m'
  | 0, i, m1, hi, s1 => by
    have e : i = C.1 := by omega
    subst e
    have h3 : m1.2.1 10 3 = nI C.1 := by rw [s1.1]; exact hC.1.1
    refine ⟨m1, ?_, s1⟩
    rw [e_X4_choice_7]
    simp (disch := omega) only [e_X4_choice_0, e_X4_choice_18, e_X4_choice_36, e_X4_choice_39, e_X4_choice_54, e_X4_choice_57, e_X4_choice_63, e_X4_choice_69, c_X4_choice, cond_true, cond_false, Option.bind_some, rI_s, rL_s, rR_s, rV_s, cnd_d, cnd_ne, cnd_eq, bI_d0, bI_t0, ite_not, decide_eq_false_iff_not, decide_eq_true_eq, lg_cmp_ge, lg_cmp_le, lg_cmp_gt, lg_cmp_lt, lg_cmp_eq, okb_1, okb_0, okb_b, li_2, li_3, li_4, li_5, li_6, li_7, li_8, li_9, li_10, li_11, li_12, li_13, li_14, li_15, li_16, li_18, li_20, li_22, li_24, li_25, li_26, li_28, li_32, li_38, li_40, li_43, li_44, li_45, li_46, li_47, li_48, li_49, li_50, li_54, li_56, li_59, li_60, li_61, li_64, li_91, li_93, li_99, li_100, li_111, li_112, li_117, li_122, li_123, li_131, li_132, li_200, li_255, li_256, li_400, li_560, li_9999, li_10000, li_99999, li_65536, pk_mul, nI_add, nI_1, neg_lt0, neg_le0, nI_nn, nI_nlt0, isO_M, lm_1, sm_1, lm_2, sm_2, lm_3, sm_3, lm_4, sm_4, lm_5, sm_5, lm_6, sm_6, lm_7, sm_7, lm_8, sm_8, lm_9, sm_9, lm_10, sm_10, lm_11, sm_11, lm_12, sm_12, lm_13, sm_13, lm_14, sm_14, lm_15, sm_15, lm_16, sm_16, lm_17, sm_17, lm_18, sm_18, lm_19, sm_19, lm_20, sm_20, lm_21, sm_21, rm_0, rm_1, wm_1, rm_2, wm_2, rm_3, rm_4, rm_5, rm_6, rm_7, rm_8, wm_8, rm_9, wm_9, rm_10, wm_10, rm_11, wm_11, rm_12, wm_12, rm_13, wm_13, rm_14, wm_14, rm_15, rm_16, wm_16, rm_17, wm_17, rm_18, rm_19, wm_19, rm_20, rm_21, rm_22, wm_22, rm_23, wm_23, rm_24, rm_25, wm_25, rm_26, wm_26, rm_27, wm_27, rm_28, wm_28, rm_29, wm_29, rm_30, rm_31, wm_31, rm_32, rm_33, rm_34, wm_34, rm_35, rm_36, rm_37, rm_38, wm_38, rm_39, rm_40, rm_41, rm_42, h3, le_rT, if_true]
  | r + 1, i, m1, hi, s1 => by
    have h3 : m1.2.1 10 3 = nI C.1 := by rw [s1.1]; exact hC.1.1
    have h11 : m1.2.1 10 11 = nI (A.2.2 0) := by rw [s1.1]; exact hA.2.2.1
    have h6 := hC.1.2
    have hfa : m1.2.1 10 (44 + 7 * A.2.2 0 + (i + 1)) = C.2.1 (A.2.2 0) (i + 1) := by rw [s1.1]; exact hC.2.1 _ _ (by omega) (by omega)
    rw [e_X4_choice_7]
    simp (disch := omega) only [e_X4_choice_0, e_X4_choice_18, e_X4_choice_69, c_X4_choice, cond_true, cond_false, Option.bind_some, rI_s, rL_s, rR_s, rV_s, cnd_d, cnd_ne, cnd_eq, bI_d0, bI_t0, ite_not, decide_eq_false_iff_not, decide_eq_true_eq, lg_cmp_ge, lg_cmp_le, lg_cmp_gt, lg_cmp_lt, lg_cmp_eq, okb_1, okb_0, okb_b, li_2, li_3, li_4, li_5, li_6, li_7, li_8, li_9, li_10, li_11, li_12, li_13, li_14, li_15, li_16, li_18, li_20, li_22, li_24, li_25, li_26, li_28, li_32, li_38, li_40, li_43, li_44, li_45, li_46, li_47, li_48, li_49, li_50, li_54, li_56, li_59, li_60, li_61, li_64, li_91, li_93, li_99, li_100, li_111, li_112, li_117, li_122, li_123, li_131, li_132, li_200, li_255, li_256, li_400, li_560, li_9999, li_10000, li_99999, li_65536, pk_mul, nI_add, nI_1, neg_lt0, neg_le0, nI_nn, nI_nlt0, isO_M, lm_1, sm_1, lm_2, sm_2, lm_3, sm_3, lm_4, sm_4, lm_5, sm_5, lm_6, sm_6, lm_7, sm_7, lm_8, sm_8, lm_9, sm_9, lm_10, sm_10, lm_11, sm_11, lm_12, sm_12, lm_13, sm_13, lm_14, sm_14, lm_15, sm_15, lm_16, sm_16, lm_17, sm_17, lm_18, sm_18, lm_19, sm_19, lm_20, sm_20, lm_21, sm_21, rm_0, rm_1, wm_1, rm_2, wm_2, rm_3, rm_4, rm_5, rm_6, rm_7, rm_8, wm_8, rm_9, wm_9, rm_10, wm_10, rm_11, wm_11, rm_12, wm_12, rm_13, wm_13, rm_14, wm_14, rm_15, rm_16, wm_16, rm_17, wm_17, rm_18, rm_19, wm_19, rm_20, rm_21, rm_22, wm_22, rm_23, wm_23, rm_24, rm_25, wm_25, rm_26, wm_26, rm_27, wm_27, rm_28, wm_28, rm_29, wm_29, rm_30, rm_31, wm_31, rm_32, rm_33, rm_34, wm_34, rm_35, rm_36, rm_37, rm_38, wm_38, rm_39, rm_40, rm_41, rm_42, h3, nI_leP, if_neg (show ¬ C.1 ≤ i by omega), h11, M_farOf, hfa]
    by_cases hr : 0 ≤ C.2.1 (A.2.2 0) (i + 1)
    · obtain ⟨m2, e2, s2⟩ := M_sumOf k d x m1 C A i (by omega) hp (VC_fr hC (SM_fr s1)) (VA_SM hA s1)
      rw [if_pos hr, e_X4_choice_39, e2]
      have hR : rA C A i = true := by simpa [rA] using hr
      obtain ⟨m', e', s'⟩ := M_choiceL k d x m C A hp hC hA r (i + 1) m2 (by omega) (SM_trans s1 s2)
      refine ⟨m', ?_, s'⟩
      rw [← e']
      simp (disch := omega) only [e_X4_choice_0, e_X4_choice_18, e_X4_choice_36, e_X4_choice_54, e_X4_choice_57, e_X4_choice_63, e_X4_choice_69, c_X4_choice, cond_true, cond_false, Option.bind_some, rI_s, rL_s, rR_s, rV_s, cnd_d, cnd_ne, cnd_eq, bI_d0, bI_t0, ite_not, decide_eq_false_iff_not, decide_eq_true_eq, lg_cmp_ge, lg_cmp_le, lg_cmp_gt, lg_cmp_lt, lg_cmp_eq, okb_1, okb_0, okb_b, li_2, li_3, li_4, li_5, li_6, li_7, li_8, li_9, li_10, li_11, li_12, li_13, li_14, li_15, li_16, li_18, li_20, li_22, li_24, li_25, li_26, li_28, li_32, li_38, li_40, li_43, li_44, li_45, li_46, li_47, li_48, li_49, li_50, li_54, li_56, li_59, li_60, li_61, li_64, li_91, li_93, li_99, li_100, li_111, li_112, li_117, li_122, li_123, li_131, li_132, li_200, li_255, li_256, li_400, li_560, li_9999, li_10000, li_99999, li_65536, pk_mul, nI_add, nI_1, neg_lt0, neg_le0, nI_nn, nI_nlt0]
      rw [chF_s, if_pos hR]
      by_cases hw : (chF (rA C A) (wA C A) i).2 < wA C A i
      · rw [if_pos hw, if_pos hw]
        rfl
      · rw [if_neg hw, if_neg hw]
    · rw [if_neg hr]
      have hR : ¬ rA C A i = true := by simpa [rA] using hr
      obtain ⟨m', e', s'⟩ := M_choiceL k d x m C A hp hC hA r (i + 1) m1 (by omega) s1
      refine ⟨m', ?_, s'⟩
      rw [← e']
      simp (disch := omega) only [e_X4_choice_0, e_X4_choice_18, e_X4_choice_36, e_X4_choice_54, e_X4_choice_57, e_X4_choice_63, e_X4_choice_69, c_X4_choice, cond_true, cond_false, Option.bind_some, rI_s, rL_s, rR_s, rV_s, cnd_d, cnd_ne, cnd_eq, bI_d0, bI_t0, ite_not, decide_eq_false_iff_not, decide_eq_true_eq, lg_cmp_ge, lg_cmp_le, lg_cmp_gt, lg_cmp_lt, lg_cmp_eq, okb_1, okb_0, okb_b, li_2, li_3, li_4, li_5, li_6, li_7, li_8, li_9, li_10, li_11, li_12, li_13, li_14, li_15, li_16, li_18, li_20, li_22, li_24, li_25, li_26, li_28, li_32, li_38, li_40, li_43, li_44, li_45, li_46, li_47, li_48, li_49, li_50, li_54, li_56, li_59, li_60, li_61, li_64, li_91, li_93, li_99, li_100, li_111, li_112, li_117, li_122, li_123, li_131, li_132, li_200, li_255, li_256, li_400, li_560, li_9999, li_10000, li_99999, li_65536, pk_mul, nI_add, nI_1, neg_lt0, neg_le0, nI_nn, nI_nlt0]
      rw [show chF (rA C A) (wA C A) (i + 1) = chF (rA C A) (wA C A) i by rw [chF_s, if_neg hR]]
theorem M_choice (k : Nat) (d : AH) (x : XS) (m : MS) (C : AC) (A : AA) (hp : A.2.2 0 ≤ C.1) (hC : VC C m) (hA : VA C A m) : ∃ m', callR (k + 5) n_X4_choice [.ref 153] (P d x m) = some (.inl (some (.int (oI (chF (rA C A) (wA C A) C.1).1))), P d x m') ∧ SM m m' := by
  obtain ⟨m', e, s⟩ := M_choiceL k d x m C A hp hC hA C.1 0 m (by omega) ⟨rfl, fun _ _ => rfl, rfl⟩
  refine ⟨m', ?_, s⟩
  rw [← e]
  simp (disch := omega) only [e_X4_choice_0, c_X4_choice, cond_true, cond_false, Option.bind_some, rI_s, rL_s, rR_s, rV_s, cnd_d, cnd_ne, cnd_eq, bI_d0, bI_t0, ite_not, decide_eq_false_iff_not, decide_eq_true_eq, lg_cmp_ge, lg_cmp_le, lg_cmp_gt, lg_cmp_lt, lg_cmp_eq, okb_1, okb_0, okb_b, isO_M, lm_1, sm_1, lm_2, sm_2, lm_3, sm_3, lm_4, sm_4, lm_5, sm_5, lm_6, sm_6, lm_7, sm_7, lm_8, sm_8, lm_9, sm_9, lm_10, sm_10, lm_11, sm_11, lm_12, sm_12, lm_13, sm_13, lm_14, sm_14, lm_15, sm_15, lm_16, sm_16, lm_17, sm_17, lm_18, sm_18, lm_19, sm_19, lm_20, sm_20, lm_21, sm_21, rm_0, rm_1, wm_1, rm_2, wm_2, rm_3, rm_4, rm_5, rm_6, rm_7, rm_8, wm_8, rm_9, wm_9, rm_10, wm_10, rm_11, wm_11, rm_12, wm_12, rm_13, wm_13, rm_14, wm_14, rm_15, rm_16, wm_16, rm_17, wm_17, rm_18, rm_19, wm_19, rm_20, rm_21, rm_22, wm_22, rm_23, wm_23, rm_24, rm_25, wm_25, rm_26, wm_26, rm_27, wm_27, rm_28, wm_28, rm_29, wm_29, rm_30, rm_31, wm_31, rm_32, rm_33, rm_34, wm_34, rm_35, rm_36, rm_37, rm_38, wm_38, rm_39, rm_40, rm_41, rm_42]
  rfl
/-- cells of said that are the going's -/
theorem mF_Fr (m : MS) (k : Nat) (v : Int32) (h : k = 19 ∨ k = 26 ∨ k = 28 ∨ k = 29) : Fr m (mF m k v) := ⟨fun _ _ => rfl, fun _ _ => rfl, fun j a b c e => va_up_ne _ _ (by omega), rfl⟩
theorem mA_s (m : MS) (i : Nat) (v : Int32) : (mA m 10 i v).2.1 10 i = v := by simp [mA, va_up_self]
theorem mA_n (m : MS) (i : Nat) (v : Int32) (j : Nat) (h : j ≠ i) : (mA m 10 i v).2.1 10 j = m.2.1 10 j := by simp [mA, va_up_self, va_up_ne _ _ h]
theorem mA_1 (m : MS) (i : Nat) (v : Int32) : (mA m 10 i v).1 = m.1 := rfl
theorem mF_2 (m : MS) (k : Nat) (v : Int32) : (mF m k v).2 = m.2 := rfl
theorem mF_s (m : MS) (k : Nat) (v : Int32) : (mF m k v).1 k = v := va_up_self _ _ _
theorem mF_n (m : MS) (k : Nat) (v : Int32) (j : Nat) (h : j ≠ k) : (mF m k v).1 j = m.1 j := va_up_ne _ _ h
theorem mA_Fr (m : MS) (i : Nat) (v : Int32) (h : 10 ≤ i ∧ i < 38) : Fr m (mA m 10 i v) := ⟨fun j hj => va_up_ne _ _ hj, fun j hj => mA_n m i v j (by omega), fun _ _ _ _ _ => rfl, rfl⟩
theorem M_step (k : Nat) (d : AH) (x : XS) (m : MS) (C : AC) (A : AA) (hA : VA C A m) : ∃ m', evR T_X4_goes (callR (k + 1)) 46 ([(0, .ref 153)], [], P d x m) = some (.inl none, P d x m') ∧ Fr m m' ∧ VA C (stepA A) m' := by
  obtain ⟨a1, ⟨a13, a10, aw⟩, a11, a12, ag, arow⟩ := id hA
  unfold stepA
  by_cases h0 : 0 < A.2.1 0
  · rw [if_pos h0]
    by_cases h1 : 0 < A.2.1 0 - 1
    · rw [if_pos h1]
      refine ⟨mA m 10 13 (A.2.1 0 - 1), ?_, mA_Fr _ _ _ (by omega), ?_⟩
      · simp (disch := omega) only [e_X4_goes_32, e_X4_goes_39, e_X4_goes_43, e_X4_goes_46, e_X4_goes_53, e_X4_goes_54, e_X4_goes_72, e_X4_goes_73, c_X4_goes, cond_true, cond_false, Option.bind_some, rI_s, rL_s, rR_s, rV_s, cnd_d, cnd_ne, cnd_eq, bI_d0, bI_t0, ite_not, decide_eq_false_iff_not, decide_eq_true_eq, lg_cmp_ge, lg_cmp_le, lg_cmp_gt, lg_cmp_lt, lg_cmp_eq, okb_1, okb_0, okb_b, li_2, li_3, li_4, li_5, li_6, li_7, li_8, li_9, li_10, li_11, li_12, li_13, li_14, li_15, li_16, li_18, li_20, li_22, li_24, li_25, li_26, li_28, li_32, li_38, li_40, li_43, li_44, li_45, li_46, li_47, li_48, li_49, li_50, li_54, li_56, li_59, li_60, li_61, li_64, li_91, li_93, li_99, li_100, li_111, li_112, li_117, li_122, li_123, li_131, li_132, li_200, li_255, li_256, li_400, li_560, li_9999, li_10000, li_99999, li_65536, pk_mul, nI_add, nI_1, neg_lt0, neg_le0, nI_nn, nI_nlt0, isO_M, lm_1, sm_1, lm_2, sm_2, lm_3, sm_3, lm_4, sm_4, lm_5, sm_5, lm_6, sm_6, lm_7, sm_7, lm_8, sm_8, lm_9, sm_9, lm_10, sm_10, lm_11, sm_11, lm_12, sm_12, lm_13, sm_13, lm_14, sm_14, lm_15, sm_15, lm_16, sm_16, lm_17, sm_17, lm_18, sm_18, lm_19, sm_19, lm_20, sm_20, lm_21, sm_21, rm_0, rm_1, wm_1, rm_2, wm_2, rm_3, rm_4, rm_5, rm_6, rm_7, rm_8, wm_8, rm_9, wm_9, rm_10, wm_10, rm_11, wm_11, rm_12, wm_12, rm_13, wm_13, rm_14, wm_14, rm_15, rm_16, wm_16, rm_17, wm_17, rm_18, rm_19, wm_19, rm_20, rm_21, rm_22, wm_22, rm_23, wm_23, rm_24, rm_25, wm_25, rm_26, wm_26, rm_27, wm_27, rm_28, wm_28, rm_29, wm_29, rm_30, rm_31, wm_31, rm_32, rm_33, rm_34, wm_34, rm_35, rm_36, rm_37, rm_38, wm_38, rm_39, rm_40, rm_41, rm_42, M_isOnItsWay, a13, h0, h1, if_true, if_false, mA_s]
      · refine ⟨fun h hh => ?_, ⟨mA_s _ _ _, ?_, ?_⟩, ?_, fun _ => ?_, ?_, arow⟩
        · rw [mA_n _ _ _ _ (by omega), mA_n _ _ _ _ (by omega), mA_n _ _ _ _ (by omega), mA_n _ _ _ _ (by omega)]; exact a1 h hh
        · rw [mA_n _ _ _ _ (by omega)]; exact a10
        · rw [mA_n _ _ _ _ (by omega)]; exact aw
        · rw [mA_n _ _ _ _ (by omega)]; exact a11
        · rw [mA_n _ _ _ _ (by omega)]; exact a12 h0
        · show _ = A.2.1 3
          rw [← ag]
          congr 1
          exact sumI_c fun i _ => by rw [mA_n _ _ _ _ (by omega), mA_n _ _ _ _ (by omega)]
    · rw [if_neg h1]
      refine ⟨mA (mA (mA m 10 13 (A.2.1 0 - 1)) 10 11 (nI (A.2.2 1))) 10 12 (-1), ?_, Fr_trans (Fr_trans (mA_Fr _ _ _ (by omega)) (mA_Fr _ _ _ (by omega))) (mA_Fr _ _ _ (by omega)), ?_⟩
      · simp (disch := omega) only [e_X4_goes_32, e_X4_goes_39, e_X4_goes_43, e_X4_goes_46, e_X4_goes_53, e_X4_goes_54, e_X4_goes_72, e_X4_goes_73, c_X4_goes, cond_true, cond_false, Option.bind_some, rI_s, rL_s, rR_s, rV_s, cnd_d, cnd_ne, cnd_eq, bI_d0, bI_t0, ite_not, decide_eq_false_iff_not, decide_eq_true_eq, lg_cmp_ge, lg_cmp_le, lg_cmp_gt, lg_cmp_lt, lg_cmp_eq, okb_1, okb_0, okb_b, li_2, li_3, li_4, li_5, li_6, li_7, li_8, li_9, li_10, li_11, li_12, li_13, li_14, li_15, li_16, li_18, li_20, li_22, li_24, li_25, li_26, li_28, li_32, li_38, li_40, li_43, li_44, li_45, li_46, li_47, li_48, li_49, li_50, li_54, li_56, li_59, li_60, li_61, li_64, li_91, li_93, li_99, li_100, li_111, li_112, li_117, li_122, li_123, li_131, li_132, li_200, li_255, li_256, li_400, li_560, li_9999, li_10000, li_99999, li_65536, pk_mul, nI_add, nI_1, neg_lt0, neg_le0, nI_nn, nI_nlt0, isO_M, lm_1, sm_1, lm_2, sm_2, lm_3, sm_3, lm_4, sm_4, lm_5, sm_5, lm_6, sm_6, lm_7, sm_7, lm_8, sm_8, lm_9, sm_9, lm_10, sm_10, lm_11, sm_11, lm_12, sm_12, lm_13, sm_13, lm_14, sm_14, lm_15, sm_15, lm_16, sm_16, lm_17, sm_17, lm_18, sm_18, lm_19, sm_19, lm_20, sm_20, lm_21, sm_21, rm_0, rm_1, wm_1, rm_2, wm_2, rm_3, rm_4, rm_5, rm_6, rm_7, rm_8, wm_8, rm_9, wm_9, rm_10, wm_10, rm_11, wm_11, rm_12, wm_12, rm_13, wm_13, rm_14, wm_14, rm_15, rm_16, wm_16, rm_17, wm_17, rm_18, rm_19, wm_19, rm_20, rm_21, rm_22, wm_22, rm_23, wm_23, rm_24, rm_25, wm_25, rm_26, wm_26, rm_27, wm_27, rm_28, wm_28, rm_29, wm_29, rm_30, rm_31, wm_31, rm_32, rm_33, rm_34, wm_34, rm_35, rm_36, rm_37, rm_38, wm_38, rm_39, rm_40, rm_41, rm_42, M_isOnItsWay, a13, h0, h1, if_true, if_false, mA_s, mA_n, a12 h0]
      · refine ⟨fun h hh => ?_, ⟨?_, ?_, ?_⟩, ?_, fun hx => absurd hx h1, ?_, arow⟩
        · simp (disch := omega) only [mA_n]; exact a1 h hh
        · simp (disch := omega) only [mA_n, mA_s]; rfl
        · simp (disch := omega) only [mA_n]; exact a10
        · simp (disch := omega) only [mA_n]; exact aw
        · simp (disch := omega) only [mA_n, mA_s]; rfl
        · show _ = A.2.1 3
          rw [← ag]
          congr 1
          exact sumI_c fun i _ => by simp (disch := omega) only [mA_n]
  · rw [if_neg h0]
    refine ⟨m, ?_, Fr_refl m, hA⟩
    simp (disch := omega) only [e_X4_goes_32, e_X4_goes_39, e_X4_goes_43, e_X4_goes_46, e_X4_goes_53, e_X4_goes_54, e_X4_goes_72, e_X4_goes_73, c_X4_goes, cond_true, cond_false, Option.bind_some, rI_s, rL_s, rR_s, rV_s, cnd_d, cnd_ne, cnd_eq, bI_d0, bI_t0, ite_not, decide_eq_false_iff_not, decide_eq_true_eq, lg_cmp_ge, lg_cmp_le, lg_cmp_gt, lg_cmp_lt, lg_cmp_eq, okb_1, okb_0, okb_b, li_2, li_3, li_4, li_5, li_6, li_7, li_8, li_9, li_10, li_11, li_12, li_13, li_14, li_15, li_16, li_18, li_20, li_22, li_24, li_25, li_26, li_28, li_32, li_38, li_40, li_43, li_44, li_45, li_46, li_47, li_48, li_49, li_50, li_54, li_56, li_59, li_60, li_61, li_64, li_91, li_93, li_99, li_100, li_111, li_112, li_117, li_122, li_123, li_131, li_132, li_200, li_255, li_256, li_400, li_560, li_9999, li_10000, li_99999, li_65536, pk_mul, nI_add, nI_1, neg_lt0, neg_le0, nI_nn, nI_nlt0, isO_M, lm_1, sm_1, lm_2, sm_2, lm_3, sm_3, lm_4, sm_4, lm_5, sm_5, lm_6, sm_6, lm_7, sm_7, lm_8, sm_8, lm_9, sm_9, lm_10, sm_10, lm_11, sm_11, lm_12, sm_12, lm_13, sm_13, lm_14, sm_14, lm_15, sm_15, lm_16, sm_16, lm_17, sm_17, lm_18, sm_18, lm_19, sm_19, lm_20, sm_20, lm_21, sm_21, rm_0, rm_1, wm_1, rm_2, wm_2, rm_3, rm_4, rm_5, rm_6, rm_7, rm_8, wm_8, rm_9, wm_9, rm_10, wm_10, rm_11, wm_11, rm_12, wm_12, rm_13, wm_13, rm_14, wm_14, rm_15, rm_16, wm_16, rm_17, wm_17, rm_18, rm_19, wm_19, rm_20, rm_21, rm_22, wm_22, rm_23, wm_23, rm_24, rm_25, wm_25, rm_26, wm_26, rm_27, wm_27, rm_28, wm_28, rm_29, wm_29, rm_30, rm_31, wm_31, rm_32, rm_33, rm_34, wm_34, rm_35, rm_36, rm_37, rm_38, wm_38, rm_39, rm_40, rm_41, rm_42, M_isOnItsWay, a13, h0, if_true, if_false]
