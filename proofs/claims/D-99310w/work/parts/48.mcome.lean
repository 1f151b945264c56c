theorem i_sub0 {w : Int32} (h : 0 ≤ w) : (if (0 : Int32) - w < 0 then 0 else (0 : Int32) - w) = 0 := by
  by_cases e : (0 : Int32) - w < 0
  · rw [if_pos e]
  · rw [if_neg e]
    by_cases hw : w = 0
    · subst hw; rfl
    · exfalso
      apply e
      obtain ⟨j, hj, rfl⟩ := nI_of (Int32.not_lt.mpr h)
      rw [Int32.zero_sub, Int32.lt_iff_toInt_lt, sb_negT hj]
      have : j ≠ 0 := fun q => hw (by rw [q]; rfl)
      show -(j : Int) < 0
      omega
theorem VA_come0 {C : AC} {A : AA} {m m' : MS} (hA : VA C A m) (q : Nat) (hq : q < C.1) (h6 : C.1 ≤ 6) (ep : A.2.2 0 = q + 1) (h0 : ¬ 0 < A.2.1 0) (hw : m'.2.1 10 (17 + 4 * q) = A.1 3 q + 1) (hh : m'.2.1 10 (15 + 4 * q) = if A.1 1 q - A.2.1 2 < 0 then 0 else A.1 1 q - A.2.1 2) (hn : ∀ i, i ≠ 17 + 4 * q → i ≠ 15 + 4 * q → m'.2.1 10 i = m.2.1 10 i) (h1 : m'.1 = m.1) : VA C (comeA A).1 m' := by
  obtain ⟨a1, ⟨a13, a10, aw⟩, a11, a12, ag, arow⟩ := id hA
  have ec : (comeA A).1 = (va_up (va_up A.1 3 (va_up (A.1 3) q (A.1 3 q + 1))) 1 (va_up (A.1 1) q (if A.1 1 q - A.2.1 2 < 0 then 0 else A.1 1 q - A.2.1 2)), A.2.1, A.2.2) := by
    unfold comeA
    rw [if_neg (fun h => h.elim h0 (by omega)), ep]
    rfl
  rw [ec]
  refine ⟨fun h hh' => ?_, ⟨?_, ?_, ?_⟩, ?_, ?_, ?_, ?_⟩
  · obtain ⟨b0, b1, b2, b3⟩ := a1 h hh'
    refine ⟨?_, ?_, ?_, ?_⟩
    · rw [hn _ (by omega) (by omega), b0]; rfl
    · show _ = va_up (A.1 1) q _ h
      by_cases e : h = q
      · subst e; rw [hh, va_up_self]
      · rw [hn _ (by omega) (by omega), b1, va_up_ne _ _ e]
    · rw [hn _ (by omega) (by omega), b2]; rfl
    · show _ = va_up (A.1 3) q _ h
      by_cases e : h = q
      · subst e; rw [hw, va_up_self]
      · rw [hn _ (by omega) (by omega), b3, va_up_ne _ _ e]
  · rw [hn _ (by omega) (by omega)]; exact a13
  · rw [hn _ (by omega) (by omega)]; exact a10
  · rw [hn _ (by omega) (by omega)]; exact aw
  · rw [hn _ (by omega) (by omega)]; exact a11
  · intro hx; exact absurd hx h0
  · show _ = A.2.1 3
    rw [← ag, h1]
    congr 1
    exact sumI_c fun i _ => by rw [hn _ (by omega) (by omega), hn _ (by omega) (by omega)]
  · rw [h1]; exact arow
theorem M_comes (k : Nat) (d : AH) (x : XS) (m : MS) (C : AC) (A : AA) (hW : WA C A) (hC : VC C m) (hA : VA C A m) : ∃ m', callR (k + 3) n_X4_comes [.ref 153] (P d x m) = some (.inl (some (.int (comeA A).2)), P d x m') ∧ Fr m m' ∧ VA C (comeA A).1 m' := by
  have h6 := hC.1.2
  have hp := hW.2.2.1
  by_cases hc : 0 < A.2.1 0 ∨ A.2.2 0 = 0
  · have e : comeA A = (A, -1) := by unfold comeA; rw [if_pos hc]
    rw [e]
    refine ⟨m, ?_, Fr_refl m, hA⟩
    by_cases h0 : 0 < A.2.1 0
    · simp (disch := omega) only [e_X4_comes_0, e_X4_comes_9, e_X4_comes_67, e_X4_comes_71, e_X4_comes_72, c_X4_comes, cond_true, cond_false, Option.bind_some, rI_s, rL_s, rR_s, rV_s, cnd_d, cnd_ne, cnd_eq, bI_d0, bI_t0, ite_not, decide_eq_false_iff_not, decide_eq_true_eq, lg_cmp_ge, lg_cmp_le, lg_cmp_gt, lg_cmp_lt, lg_cmp_eq, okb_1, okb_0, okb_b, isO_M, lm_1, sm_1, lm_2, sm_2, lm_3, sm_3, lm_4, sm_4, lm_5, sm_5, lm_6, sm_6, lm_7, sm_7, lm_8, sm_8, lm_9, sm_9, lm_10, sm_10, lm_11, sm_11, lm_12, sm_12, lm_13, sm_13, lm_14, sm_14, lm_15, sm_15, lm_16, sm_16, lm_17, sm_17, lm_18, sm_18, lm_19, sm_19, lm_20, sm_20, lm_21, sm_21, rm_0, rm_1, wm_1, rm_2, wm_2, rm_3, rm_4, rm_5, rm_6, rm_7, rm_8, wm_8, rm_9, wm_9, rm_10, wm_10, rm_11, wm_11, rm_12, wm_12, rm_13, wm_13, rm_14, wm_14, rm_15, rm_16, wm_16, rm_17, wm_17, rm_18, rm_19, wm_19, rm_20, rm_21, rm_22, wm_22, rm_23, wm_23, rm_24, rm_25, wm_25, rm_26, wm_26, rm_27, wm_27, rm_28, wm_28, rm_29, wm_29, rm_30, rm_31, wm_31, rm_32, rm_33, rm_34, wm_34, rm_35, rm_36, rm_37, rm_38, wm_38, rm_39, rm_40, rm_41, rm_42, M_whereItIs, hA.2.1.1, h0, if_true, neg_le0, if_false]
    · have hz : A.2.2 0 = 0 := hc.elim (fun h => absurd h h0) id
      simp (disch := omega) only [e_X4_comes_0, e_X4_comes_9, e_X4_comes_67, e_X4_comes_71, e_X4_comes_72, c_X4_comes, cond_true, cond_false, Option.bind_some, rI_s, rL_s, rR_s, rV_s, cnd_d, cnd_ne, cnd_eq, bI_d0, bI_t0, ite_not, decide_eq_false_iff_not, decide_eq_true_eq, lg_cmp_ge, lg_cmp_le, lg_cmp_gt, lg_cmp_lt, lg_cmp_eq, okb_1, okb_0, okb_b, isO_M, lm_1, sm_1, lm_2, sm_2, lm_3, sm_3, lm_4, sm_4, lm_5, sm_5, lm_6, sm_6, lm_7, sm_7, lm_8, sm_8, lm_9, sm_9, lm_10, sm_10, lm_11, sm_11, lm_12, sm_12, lm_13, sm_13, lm_14, sm_14, lm_15, sm_15, lm_16, sm_16, lm_17, sm_17, lm_18, sm_18, lm_19, sm_19, lm_20, sm_20, lm_21, sm_21, rm_0, rm_1, wm_1, rm_2, wm_2, rm_3, rm_4, rm_5, rm_6, rm_7, rm_8, wm_8, rm_9, wm_9, rm_10, wm_10, rm_11, wm_11, rm_12, wm_12, rm_13, wm_13, rm_14, wm_14, rm_15, rm_16, wm_16, rm_17, wm_17, rm_18, rm_19, wm_19, rm_20, rm_21, rm_22, wm_22, rm_23, wm_23, rm_24, rm_25, wm_25, rm_26, wm_26, rm_27, wm_27, rm_28, wm_28, rm_29, wm_29, rm_30, rm_31, wm_31, rm_32, rm_33, rm_34, wm_34, rm_35, rm_36, rm_37, rm_38, wm_38, rm_39, rm_40, rm_41, rm_42, M_whereItIs, hA.2.1.1, h0, if_false, hA.2.2.1, hz]
      rw [if_neg (by decide)]
  · have h0 : ¬ 0 < A.2.1 0 := fun h => hc (Or.inl h)
    obtain ⟨q, eq⟩ : ∃ q, A.2.2 0 = q + 1 := ⟨A.2.2 0 - 1, by omega⟩
    have hq : q < C.1 := by omega
    have hhe := (hA.1 q hq).2.1
    have hbe := (hA.1 q hq).2.2.2
    have hh0 := (hW.1 q hq).1
    have e2 : (comeA A).2 = if 0 < A.1 1 q then nI q else -1 := by
      unfold comeA
      rw [if_neg hc, eq]
      rfl
    have hl1 : ∀ m, ldI (P d x m) 163 0 (1 : Int32) = some (m.2.1 10 1) := fun m => lm_10 d x m 1 (by omega)
    have n17 : 14 + 4 * q + 3 = 17 + 4 * q := by omega
    have n15 : 14 + 4 * q + 1 = 15 + 4 * q := by omega
    rw [e2]
    by_cases hz : 0 < A.1 1 q
    · rw [if_pos hz]
      refine ⟨mA (mA m 10 (17 + 4 * q) (A.1 3 q + 1)) 10 (15 + 4 * q) (if A.1 1 q - A.2.1 2 < 0 then 0 else A.1 1 q - A.2.1 2), ?_, Fr_trans (mA_Fr _ _ _ (by omega)) (mA_Fr _ _ _ (by omega)), VA_come0 hA q hq h6 eq h0 ?_ ?_ ?_ rfl⟩
      · have hth : ∀ v : Int32, (0 ≤ v) = ¬ v < 0 := fun v => propext Int32.not_lt.symm
        simp (disch := omega) only [e_X4_comes_0, e_X4_comes_9, e_X4_comes_11, e_X4_comes_36, e_X4_comes_38, e_X4_comes_67, e_X4_comes_71, e_X4_comes_72, c_X4_comes, cond_true, cond_false, Option.bind_some, rI_s, rL_s, rR_s, rV_s, cnd_d, cnd_ne, cnd_eq, bI_d0, bI_t0, ite_not, decide_eq_false_iff_not, decide_eq_true_eq, lg_cmp_ge, lg_cmp_le, lg_cmp_gt, lg_cmp_lt, lg_cmp_eq, okb_1, okb_0, okb_b, li_2, li_3, li_4, li_5, li_6, li_7, li_8, li_9, li_10, li_11, li_12, li_13, li_14, li_15, li_16, li_18, li_20, li_22, li_24, li_25, li_26, li_28, li_32, li_38, li_40, li_43, li_44, li_45, li_46, li_47, li_48, li_49, li_50, li_54, li_56, li_59, li_60, li_61, li_64, li_91, li_93, li_99, li_100, li_111, li_112, li_117, li_122, li_123, li_131, li_132, li_200, li_255, li_256, li_400, li_560, li_9999, li_10000, li_99999, li_65536, pk_mul, nI_add, nI_1, neg_lt0, neg_le0, nI_nn, nI_nlt0, isO_M, lm_1, sm_1, lm_2, sm_2, lm_3, sm_3, lm_4, sm_4, lm_5, sm_5, lm_6, sm_6, lm_7, sm_7, lm_8, sm_8, lm_9, sm_9, lm_10, sm_10, lm_11, sm_11, lm_12, sm_12, lm_13, sm_13, lm_14, sm_14, lm_15, sm_15, lm_16, sm_16, lm_17, sm_17, lm_18, sm_18, lm_19, sm_19, lm_20, sm_20, lm_21, sm_21, rm_0, rm_1, wm_1, rm_2, wm_2, rm_3, rm_4, rm_5, rm_6, rm_7, rm_8, wm_8, rm_9, wm_9, rm_10, wm_10, rm_11, wm_11, rm_12, wm_12, rm_13, wm_13, rm_14, wm_14, rm_15, rm_16, wm_16, rm_17, wm_17, rm_18, rm_19, wm_19, rm_20, rm_21, rm_22, wm_22, rm_23, wm_23, rm_24, rm_25, wm_25, rm_26, wm_26, rm_27, wm_27, rm_28, wm_28, rm_29, wm_29, rm_30, rm_31, wm_31, rm_32, rm_33, rm_34, wm_34, rm_35, rm_36, rm_37, rm_38, wm_38, rm_39, rm_40, rm_41, rm_42, M_whereItIs, hA.2.1.1, h0, if_false, hA.2.2.1, eq, nI_pred, if_true, n17, n15, hbe, M_heatOf, mA_n, hhe, i_ne0 hh0, hz, not_true, hl1, hA.2.1.2.2, hth]
        by_cases ht : A.1 1 q - A.2.1 2 < 0
        · rw [if_pos ht, if_pos ht]
        · rw [if_neg ht, if_neg ht]
      · simp (disch := omega) only [mA_n, mA_s]
      · simp (disch := omega) only [mA_n, mA_s]
      · intro i h1 h2
        rw [mA_n _ _ _ _ h2, mA_n _ _ _ _ h1]
    · rw [if_neg hz]
      have hz0 : A.1 1 q = 0 := by rw [i_ne0 hh0]; exact hz
      refine ⟨mA m 10 (17 + 4 * q) (A.1 3 q + 1), ?_, mA_Fr _ _ _ (by omega), VA_come0 hA q hq h6 eq h0 ?_ ?_ ?_ rfl⟩
      · simp (disch := omega) only [e_X4_comes_0, e_X4_comes_9, e_X4_comes_11, e_X4_comes_36, e_X4_comes_38, e_X4_comes_67, e_X4_comes_71, e_X4_comes_72, c_X4_comes, cond_true, cond_false, Option.bind_some, rI_s, rL_s, rR_s, rV_s, cnd_d, cnd_ne, cnd_eq, bI_d0, bI_t0, ite_not, decide_eq_false_iff_not, decide_eq_true_eq, lg_cmp_ge, lg_cmp_le, lg_cmp_gt, lg_cmp_lt, lg_cmp_eq, okb_1, okb_0, okb_b, li_2, li_3, li_4, li_5, li_6, li_7, li_8, li_9, li_10, li_11, li_12, li_13, li_14, li_15, li_16, li_18, li_20, li_22, li_24, li_25, li_26, li_28, li_32, li_38, li_40, li_43, li_44, li_45, li_46, li_47, li_48, li_49, li_50, li_54, li_56, li_59, li_60, li_61, li_64, li_91, li_93, li_99, li_100, li_111, li_112, li_117, li_122, li_123, li_131, li_132, li_200, li_255, li_256, li_400, li_560, li_9999, li_10000, li_99999, li_65536, pk_mul, nI_add, nI_1, neg_lt0, neg_le0, nI_nn, nI_nlt0, isO_M, lm_1, sm_1, lm_2, sm_2, lm_3, sm_3, lm_4, sm_4, lm_5, sm_5, lm_6, sm_6, lm_7, sm_7, lm_8, sm_8, lm_9, sm_9, lm_10, sm_10, lm_11, sm_11, lm_12, sm_12, lm_13, sm_13, lm_14, sm_14, lm_15, sm_15, lm_16, sm_16, lm_17, sm_17, lm_18, sm_18, lm_19, sm_19, lm_20, sm_20, lm_21, sm_21, rm_0, rm_1, wm_1, rm_2, wm_2, rm_3, rm_4, rm_5, rm_6, rm_7, rm_8, wm_8, rm_9, wm_9, rm_10, wm_10, rm_11, wm_11, rm_12, wm_12, rm_13, wm_13, rm_14, wm_14, rm_15, rm_16, wm_16, rm_17, wm_17, rm_18, rm_19, wm_19, rm_20, rm_21, rm_22, wm_22, rm_23, wm_23, rm_24, rm_25, wm_25, rm_26, wm_26, rm_27, wm_27, rm_28, wm_28, rm_29, wm_29, rm_30, rm_31, wm_31, rm_32, rm_33, rm_34, wm_34, rm_35, rm_36, rm_37, rm_38, wm_38, rm_39, rm_40, rm_41, rm_42, M_whereItIs, hA.2.1.1, h0, if_false, hA.2.2.1, eq, nI_pred, if_true, n17, n15, hbe, M_heatOf, mA_n, hhe, i_ne0 hh0, hz, not_false_iff]
      · rw [mA_s]
      · rw [mA_n _ _ _ _ (by omega), hhe, hz0, i_sub0 hW.2.1]
      · intro i h1 h2
        rw [mA_n _ _ _ _ h1]
