/-! many hours; what is kept and laid back -/
def itA (C : AC) : Nat → AA → AA
  | 0, A => A
  | n + 1, A => itA C n (hourA C A)
theorem WA_it {C : AC} : ∀ n {A : AA}, WA C A → WA C (itA C n A)
  | 0, _, h => h
  | n + 1, _, h => WA_it n (WA_hour h)
theorem M_passesL (k : Nat) (d : AH) (x : XS) (C : AC) (n : Nat) (hn : n < 1000) : ∀ (r i : Nat) (A : AA) (m : MS), i + r = n → WA C A → VC C m → VA C A m → ∃ m', evR T_X4_passesAll (callR (k + 7)) 2 ([(0, .ref 153), (1, .int (nI n)), (2, .int (nI i))], [], P d x m) = some (.inl none, P d x m') ∧ Fr m m' ∧ VA C (itA C r A) m'
  | 0, i, A, m, hi, hW, hC, hA => by
    refine ⟨m, ?_, Fr_refl m, hA⟩
    rw [e_X4_passesAll_2]
    simp (disch := omega) only [e_X4_passesAll_0, e_X4_passesAll_18, c_X4_passesAll, cond_true, cond_false, Option.bind_some, rI_s, rL_s, rR_s, rV_s, cnd_d, cnd_ne, cnd_eq, bI_d0, bI_t0, ite_not, decide_eq_false_iff_not, decide_eq_true_eq, lg_cmp_ge, lg_cmp_le, lg_cmp_gt, lg_cmp_lt, lg_cmp_eq, okb_1, okb_0, okb_b, li_2, li_3, li_4, li_5, li_6, li_7, li_8, li_9, li_10, li_11, li_12, li_13, li_14, li_15, li_16, li_18, li_20, li_22, li_24, li_25, li_26, li_28, li_32, li_38, li_40, li_43, li_44, li_45, li_46, li_47, li_48, li_49, li_50, li_54, li_56, li_59, li_60, li_61, li_64, li_91, li_93, li_99, li_100, li_111, li_112, li_117, li_122, li_123, li_131, li_132, li_200, li_255, li_256, li_400, li_560, li_9999, li_10000, li_99999, li_65536, pk_mul, nI_add, nI_1, neg_lt0, neg_le0, nI_nn, nI_nlt0, show i = n by omega, le_rT, if_true]
  | r + 1, i, A, m, hi, hW, hC, hA => by
    obtain ⟨m1, e1, f1, -, v1⟩ := M_passes k d x m C A hW hC hA
    obtain ⟨m2, e2, f2, v2⟩ := M_passesL k d x C n hn r (i + 1) (hourA C A) m1 (by omega) (WA_hour hW) (VC_fr hC f1) v1
    refine ⟨m2, ?_, Fr_trans f1 f2, v2⟩
    rw [e_X4_passesAll_2]
    simp (disch := omega) only [e_X4_passesAll_0, e_X4_passesAll_7, e_X4_passesAll_18, c_X4_passesAll, cond_true, cond_false, Option.bind_some, rI_s, rL_s, rR_s, rV_s, cnd_d, cnd_ne, cnd_eq, bI_d0, bI_t0, ite_not, decide_eq_false_iff_not, decide_eq_true_eq, lg_cmp_ge, lg_cmp_le, lg_cmp_gt, lg_cmp_lt, lg_cmp_eq, okb_1, okb_0, okb_b, li_2, li_3, li_4, li_5, li_6, li_7, li_8, li_9, li_10, li_11, li_12, li_13, li_14, li_15, li_16, li_18, li_20, li_22, li_24, li_25, li_26, li_28, li_32, li_38, li_40, li_43, li_44, li_45, li_46, li_47, li_48, li_49, li_50, li_54, li_56, li_59, li_60, li_61, li_64, li_91, li_93, li_99, li_100, li_111, li_112, li_117, li_122, li_123, li_131, li_132, li_200, li_255, li_256, li_400, li_560, li_9999, li_10000, li_99999, li_65536, pk_mul, nI_add, nI_1, neg_lt0, neg_le0, nI_nn, nI_nlt0, nI_leP, if_neg (show ¬ n ≤ i by omega), e1, e2]
theorem M_passesAll (k : Nat) (d : AH) (x : XS) (C : AC) (n : Nat) (hn : n < 1000) (A : AA) (m : MS) (hW : WA C A) (hC : VC C m) (hA : VA C A m) : ∃ m', callR (k + 8) n_X4_passesAll [.ref 153, .int (nI n)] (P d x m) = some (.inl none, P d x m') ∧ Fr m m' ∧ VA C (itA C n A) m' := by
  obtain ⟨m', e, f, v⟩ := M_passesL k d x C n hn n 0 A m (by omega) hW hC hA
  refine ⟨m', ?_, f, v⟩
  rw [← e, nI_0]
  simp (disch := omega) only [e_X4_passesAll_0, e_X4_passesAll_18, c_X4_passesAll, cond_true, cond_false, Option.bind_some, rI_s, rL_s, rR_s, rV_s, cnd_d, cnd_ne, cnd_eq, bI_d0, bI_t0, ite_not, decide_eq_false_iff_not, decide_eq_true_eq, lg_cmp_ge, lg_cmp_le, lg_cmp_gt, lg_cmp_lt, lg_cmp_eq, okb_1, okb_0, okb_b, isO_M, lm_1, sm_1, lm_2, sm_2, lm_3, sm_3, lm_4, sm_4, lm_5, sm_5, lm_6, sm_6, lm_7, sm_7, lm_8, sm_8, lm_9, sm_9, lm_10, sm_10, lm_11, sm_11, lm_12, sm_12, lm_13, sm_13, lm_14, sm_14, lm_15, sm_15, lm_16, sm_16, lm_17, sm_17, lm_18, sm_18, lm_19, sm_19, lm_20, sm_20, lm_21, sm_21, rm_0, rm_1, wm_1, rm_2, wm_2, rm_3, rm_4, rm_5, rm_6, rm_7, rm_8, wm_8, rm_9, wm_9, rm_10, wm_10, rm_11, wm_11, rm_12, wm_12, rm_13, wm_13, rm_14, wm_14, rm_15, rm_16, wm_16, rm_17, wm_17, rm_18, rm_19, wm_19, rm_20, rm_21, rm_22, wm_22, rm_23, wm_23, rm_24, rm_25, wm_25, rm_26, wm_26, rm_27, wm_27, rm_28, wm_28, rm_29, wm_29, rm_30, rm_31, wm_31, rm_32, rm_33, rm_34, wm_34, rm_35, rm_36, rm_37, rm_38, wm_38, rm_39, rm_40, rm_41, rm_42]
theorem X_goesTillL (k : Nat) (d : AH) (m : MS) (C : AC) (n : Nat) (hn : n < 1000) : ∀ (r i : Nat) (A : AA) (x : XS), i + r = n → WA C A → XC d C x → XA C A x 1 → ∃ x', evR T_X0_goesTill (callR (k + 204)) 2 ([(0, .ref 0), (1, .int (nI n)), (2, .int (nI i))], [], P d x m) = some (.inl none, P d x' m) ∧ FX 1 x x' ∧ XA C (itA C r A) x' 1
  | 0, i, A, x, hi, hW, hC, hA => by
    refine ⟨x, ?_, FX_refl 1 x, hA⟩
    rw [e_X0_goesTill_2]
    simp (disch := omega) only [e_X0_goesTill_0, e_X0_goesTill_22, c_X0_goesTill, cond_true, cond_false, Option.bind_some, rI_s, rL_s, rR_s, rV_s, cnd_d, cnd_ne, cnd_eq, bI_d0, bI_t0, ite_not, decide_eq_false_iff_not, decide_eq_true_eq, lg_cmp_ge, lg_cmp_le, lg_cmp_gt, lg_cmp_lt, lg_cmp_eq, okb_1, okb_0, okb_b, li_2, li_3, li_4, li_5, li_6, li_7, li_8, li_9, li_10, li_11, li_12, li_13, li_14, li_15, li_16, li_18, li_20, li_22, li_24, li_25, li_26, li_28, li_32, li_38, li_40, li_43, li_44, li_45, li_46, li_47, li_48, li_49, li_50, li_54, li_56, li_59, li_60, li_61, li_64, li_91, li_93, li_99, li_100, li_111, li_112, li_117, li_122, li_123, li_131, li_132, li_200, li_255, li_256, li_400, li_560, li_9999, li_10000, li_99999, li_65536, pk_mul, nI_add, nI_1, neg_lt0, neg_le0, nI_nn, nI_nlt0, show i = n by omega, le_rT, if_true]
  | r + 1, i, A, x, hi, hW, hC, hA => by
    obtain ⟨x1, e1, f1, -, v1⟩ := X_hour k d x m 1 (by omega) C A hW hC hA
    obtain ⟨x2, e2, f2, v2⟩ := X_goesTillL k d m C n hn r (i + 1) (hourA C A) x1 (by omega) (WA_hour hW) (XC_fr hC f1) v1
    refine ⟨x2, ?_, FX_trans f1 f2, v2⟩
    have e1' : callR (k + 204) n_X0_goesOn [.ref 0, .ref 12] (P d x m) = _ := e1
    rw [e_X0_goesTill_2]
    simp (disch := omega) only [e_X0_goesTill_0, e_X0_goesTill_7, e_X0_goesTill_22, c_X0_goesTill, cond_true, cond_false, Option.bind_some, rI_s, rL_s, rR_s, rV_s, cnd_d, cnd_ne, cnd_eq, bI_d0, bI_t0, ite_not, decide_eq_false_iff_not, decide_eq_true_eq, lg_cmp_ge, lg_cmp_le, lg_cmp_gt, lg_cmp_lt, lg_cmp_eq, okb_1, okb_0, okb_b, li_2, li_3, li_4, li_5, li_6, li_7, li_8, li_9, li_10, li_11, li_12, li_13, li_14, li_15, li_16, li_18, li_20, li_22, li_24, li_25, li_26, li_28, li_32, li_38, li_40, li_43, li_44, li_45, li_46, li_47, li_48, li_49, li_50, li_54, li_56, li_59, li_60, li_61, li_64, li_91, li_93, li_99, li_100, li_111, li_112, li_117, li_122, li_123, li_131, li_132, li_200, li_255, li_256, li_400, li_560, li_9999, li_10000, li_99999, li_65536, pk_mul, nI_add, nI_1, neg_lt0, neg_le0, nI_nn, nI_nlt0, nI_leP, if_neg (show ¬ n ≤ i by omega), rx_2, e1', e2]
theorem X_goesTill (k : Nat) (d : AH) (m : MS) (C : AC) (n : Nat) (hn : n < 1000) (A : AA) (x : XS) (hW : WA C A) (hC : XC d C x) (hA : XA C A x 1) : ∃ x', callR (k + 205) n_X0_goesTill [.ref 0, .int (nI n)] (P d x m) = some (.inl none, P d x' m) ∧ FX 1 x x' ∧ XA C (itA C n A) x' 1 := by
  obtain ⟨x', e, f, v⟩ := X_goesTillL k d m C n hn n 0 A x (by omega) hW hC hA
  refine ⟨x', ?_, f, v⟩
  rw [← e, nI_0]
  simp (disch := omega) only [e_X0_goesTill_0, e_X0_goesTill_22, c_X0_goesTill, cond_true, cond_false, Option.bind_some, rI_s, rL_s, rR_s, rV_s, cnd_d, cnd_ne, cnd_eq, bI_d0, bI_t0, ite_not, decide_eq_false_iff_not, decide_eq_true_eq, lg_cmp_ge, lg_cmp_le, lg_cmp_gt, lg_cmp_lt, lg_cmp_eq, okb_1, okb_0, okb_b, isO_X]
/-- m' is m, with cells a.. of array j as f says -/
def CpM (j a n : Nat) (f : Nat → Int32) (m m' : MS) : Prop := (∀ i, i < n → m'.2.1 j (a + i) = f i) ∧ (∀ i, i < a ∨ a + n ≤ i → m'.2.1 j i = m.2.1 j i) ∧ (∀ q, q ≠ j → m'.2.1 q = m.2.1 q) ∧ m'.1 = m.1 ∧ m'.2.2 = m.2.2
theorem CpM_0 (j a : Nat) (f : Nat → Int32) (m : MS) : CpM j a 0 f m m := ⟨fun i hi => absurd hi (by omega), fun _ _ => rfl, fun _ _ => rfl, rfl, rfl⟩
theorem CpM_s {j a n : Nat} {f : Nat → Int32} {m m' : MS} (h : CpM j a n f m m') : CpM j a (n + 1) f m (mA m' j (a + n) (f n)) := by
  obtain ⟨h1, h2, h3, h4, h5⟩ := h
  refine ⟨fun i hi => ?_, fun i hi => ?_, fun q hq => ?_, h4, h5⟩
  · show va_up m'.2.1 j (va_up (m'.2.1 j) (a + n) (f n)) j (a + i) = f i
    rw [va_up_self]
    by_cases e : i = n
    · rw [e, va_up_self]
    · rw [va_up_ne _ _ (by omega)]; exact h1 i (by omega)
  · show va_up m'.2.1 j (va_up (m'.2.1 j) (a + n) (f n)) j i = _
    rw [va_up_self, va_up_ne _ _ (by omega)]; exact h2 i (by omega)
  · show va_up m'.2.1 j (va_up (m'.2.1 j) (a + n) (f n)) q = _
    rw [va_up_ne _ _ hq]; exact h3 q hq
theorem M_keepsL (E : AEn) (d : AH) (x : XS) (m : MS) : ∀ (r i : Nat) (m1 : MS), i + r = 28 → CpM 13 0 i (fun k => m.2.1 10 (10 + k)) m m1 → ∃ m', evR T_X4_keeps E 2 ([(0, .ref 153), (1, .int (nI i))], [], P d x m1) = some (.inl none, P d x m') ∧ CpM 13 0 28 (fun k => m.2.1 10 (10 + k)) m m'
  | 0, i, m1, hi, h => by
    have e : i = 28 := by omega
    subst e
    refine ⟨m1, ?_, h⟩
    rw [e_X4_keeps_2]
    simp (disch := omega) only [e_X4_keeps_0, e_X4_keeps_29, c_X4_keeps, cond_true, cond_false, Option.bind_some, rI_s, rL_s, rR_s, rV_s, cnd_d, cnd_ne, cnd_eq, bI_d0, bI_t0, ite_not, decide_eq_false_iff_not, decide_eq_true_eq, lg_cmp_ge, lg_cmp_le, lg_cmp_gt, lg_cmp_lt, lg_cmp_eq, okb_1, okb_0, okb_b, li_2, li_3, li_4, li_5, li_6, li_7, li_8, li_9, li_10, li_11, li_12, li_13, li_14, li_15, li_16, li_18, li_20, li_22, li_24, li_25, li_26, li_28, li_32, li_38, li_40, li_43, li_44, li_45, li_46, li_47, li_48, li_49, li_50, li_54, li_56, li_59, li_60, li_61, li_64, li_91, li_93, li_99, li_100, li_111, li_112, li_117, li_122, li_123, li_131, li_132, li_200, li_255, li_256, li_400, li_560, li_9999, li_10000, li_99999, li_65536, pk_mul, nI_add, nI_1, neg_lt0, neg_le0, nI_nn, nI_nlt0, le_rT, if_true]
  | r + 1, i, m1, hi, h => by
    have hs := CpM_s h
    rw [Nat.zero_add] at hs
    obtain ⟨m', e', h'⟩ := M_keepsL E d x m r (i + 1) _ (by omega) hs
    refine ⟨m', ?_, h'⟩
    rw [e_X4_keeps_2]
    simp (disch := omega) only [e_X4_keeps_0, e_X4_keeps_8, e_X4_keeps_29, c_X4_keeps, cond_true, cond_false, Option.bind_some, rI_s, rL_s, rR_s, rV_s, cnd_d, cnd_ne, cnd_eq, bI_d0, bI_t0, ite_not, decide_eq_false_iff_not, decide_eq_true_eq, lg_cmp_ge, lg_cmp_le, lg_cmp_gt, lg_cmp_lt, lg_cmp_eq, okb_1, okb_0, okb_b, li_2, li_3, li_4, li_5, li_6, li_7, li_8, li_9, li_10, li_11, li_12, li_13, li_14, li_15, li_16, li_18, li_20, li_22, li_24, li_25, li_26, li_28, li_32, li_38, li_40, li_43, li_44, li_45, li_46, li_47, li_48, li_49, li_50, li_54, li_56, li_59, li_60, li_61, li_64, li_91, li_93, li_99, li_100, li_111, li_112, li_117, li_122, li_123, li_131, li_132, li_200, li_255, li_256, li_400, li_560, li_9999, li_10000, li_99999, li_65536, pk_mul, nI_add, nI_1, neg_lt0, neg_le0, nI_nn, nI_nlt0, isO_M, lm_1, sm_1, lm_2, sm_2, lm_3, sm_3, lm_4, sm_4, lm_5, sm_5, lm_6, sm_6, lm_7, sm_7, lm_8, sm_8, lm_9, sm_9, lm_10, sm_10, lm_11, sm_11, lm_12, sm_12, lm_13, sm_13, lm_14, sm_14, lm_15, sm_15, lm_16, sm_16, lm_17, sm_17, lm_18, sm_18, lm_19, sm_19, lm_20, sm_20, lm_21, sm_21, rm_0, rm_1, wm_1, rm_2, wm_2, rm_3, rm_4, rm_5, rm_6, rm_7, rm_8, wm_8, rm_9, wm_9, rm_10, wm_10, rm_11, wm_11, rm_12, wm_12, rm_13, wm_13, rm_14, wm_14, rm_15, rm_16, wm_16, rm_17, wm_17, rm_18, rm_19, wm_19, rm_20, rm_21, rm_22, wm_22, rm_23, wm_23, rm_24, rm_25, wm_25, rm_26, wm_26, rm_27, wm_27, rm_28, wm_28, rm_29, wm_29, rm_30, rm_31, wm_31, rm_32, rm_33, rm_34, wm_34, rm_35, rm_36, rm_37, rm_38, wm_38, rm_39, rm_40, rm_41, rm_42, nI_leP, if_neg (show ¬ 28 ≤ i by omega), h.2.2.1 10 (by omega), e']
theorem M_keeps (k : Nat) (d : AH) (x : XS) (m : MS) : ∃ m', callR (k + 1) n_X4_keeps [.ref 153] (P d x m) = some (.inl none, P d x m') ∧ CpM 13 0 28 (fun k => m.2.1 10 (10 + k)) m m' := by
  obtain ⟨m', e, h⟩ := M_keepsL (callR k) d x m 28 0 m (by omega) (CpM_0 _ _ _ _)
  refine ⟨m', ?_, h⟩
  rw [← e, nI_0]
  simp (disch := omega) only [e_X4_keeps_0, c_X4_keeps, cond_true, cond_false, Option.bind_some, rI_s, rL_s, rR_s, rV_s, cnd_d, cnd_ne, cnd_eq, bI_d0, bI_t0, ite_not, decide_eq_false_iff_not, decide_eq_true_eq, lg_cmp_ge, lg_cmp_le, lg_cmp_gt, lg_cmp_lt, lg_cmp_eq, okb_1, okb_0, okb_b, isO_M, lm_1, sm_1, lm_2, sm_2, lm_3, sm_3, lm_4, sm_4, lm_5, sm_5, lm_6, sm_6, lm_7, sm_7, lm_8, sm_8, lm_9, sm_9, lm_10, sm_10, lm_11, sm_11, lm_12, sm_12, lm_13, sm_13, lm_14, sm_14, lm_15, sm_15, lm_16, sm_16, lm_17, sm_17, lm_18, sm_18, lm_19, sm_19, lm_20, sm_20, lm_21, sm_21, rm_0, rm_1, wm_1, rm_2, wm_2, rm_3, rm_4, rm_5, rm_6, rm_7, rm_8, wm_8, rm_9, wm_9, rm_10, wm_10, rm_11, wm_11, rm_12, wm_12, rm_13, wm_13, rm_14, wm_14, rm_15, rm_16, wm_16, rm_17, wm_17, rm_18, rm_19, wm_19, rm_20, rm_21, rm_22, wm_22, rm_23, wm_23, rm_24, rm_25, wm_25, rm_26, wm_26, rm_27, wm_27, rm_28, wm_28, rm_29, wm_29, rm_30, rm_31, wm_31, rm_32, rm_33, rm_34, wm_34, rm_35, rm_36, rm_37, rm_38, wm_38, rm_39, rm_40, rm_41, rm_42]
theorem M_laysBackL (E : AEn) (d : AH) (x : XS) (m : MS) : ∀ (r i : Nat) (m1 : MS), i + r = 28 → CpM 10 10 i (fun k => m.2.1 13 k) m m1 → ∃ m', evR T_X4_laysBack E 2 ([(0, .ref 153), (1, .int (nI i))], [], P d x m1) = some (.inl none, P d x m') ∧ CpM 10 10 28 (fun k => m.2.1 13 k) m m'
  | 0, i, m1, hi, h => by
    have e : i = 28 := by omega
    subst e
    refine ⟨m1, ?_, h⟩
    rw [e_X4_laysBack_2]
    simp (disch := omega) only [e_X4_laysBack_0, e_X4_laysBack_29, c_X4_laysBack, cond_true, cond_false, Option.bind_some, rI_s, rL_s, rR_s, rV_s, cnd_d, cnd_ne, cnd_eq, bI_d0, bI_t0, ite_not, decide_eq_false_iff_not, decide_eq_true_eq, lg_cmp_ge, lg_cmp_le, lg_cmp_gt, lg_cmp_lt, lg_cmp_eq, okb_1, okb_0, okb_b, li_2, li_3, li_4, li_5, li_6, li_7, li_8, li_9, li_10, li_11, li_12, li_13, li_14, li_15, li_16, li_18, li_20, li_22, li_24, li_25, li_26, li_28, li_32, li_38, li_40, li_43, li_44, li_45, li_46, li_47, li_48, li_49, li_50, li_54, li_56, li_59, li_60, li_61, li_64, li_91, li_93, li_99, li_100, li_111, li_112, li_117, li_122, li_123, li_131, li_132, li_200, li_255, li_256, li_400, li_560, li_9999, li_10000, li_99999, li_65536, pk_mul, nI_add, nI_1, neg_lt0, neg_le0, nI_nn, nI_nlt0, le_rT, if_true]
  | r + 1, i, m1, hi, h => by
    have hs := CpM_s h
    obtain ⟨m', e', h'⟩ := M_laysBackL E d x m r (i + 1) _ (by omega) hs
    refine ⟨m', ?_, h'⟩
    rw [e_X4_laysBack_2]
    simp (disch := omega) only [e_X4_laysBack_0, e_X4_laysBack_8, e_X4_laysBack_29, c_X4_laysBack, cond_true, cond_false, Option.bind_some, rI_s, rL_s, rR_s, rV_s, cnd_d, cnd_ne, cnd_eq, bI_d0, bI_t0, ite_not, decide_eq_false_iff_not, decide_eq_true_eq, lg_cmp_ge, lg_cmp_le, lg_cmp_gt, lg_cmp_lt, lg_cmp_eq, okb_1, okb_0, okb_b, li_2, li_3, li_4, li_5, li_6, li_7, li_8, li_9, li_10, li_11, li_12, li_13, li_14, li_15, li_16, li_18, li_20, li_22, li_24, li_25, li_26, li_28, li_32, li_38, li_40, li_43, li_44, li_45, li_46, li_47, li_48, li_49, li_50, li_54, li_56, li_59, li_60, li_61, li_64, li_91, li_93, li_99, li_100, li_111, li_112, li_117, li_122, li_123, li_131, li_132, li_200, li_255, li_256, li_400, li_560, li_9999, li_10000, li_99999, li_65536, pk_mul, nI_add, nI_1, neg_lt0, neg_le0, nI_nn, nI_nlt0, isO_M, lm_1, sm_1, lm_2, sm_2, lm_3, sm_3, lm_4, sm_4, lm_5, sm_5, lm_6, sm_6, lm_7, sm_7, lm_8, sm_8, lm_9, sm_9, lm_10, sm_10, lm_11, sm_11, lm_12, sm_12, lm_13, sm_13, lm_14, sm_14, lm_15, sm_15, lm_16, sm_16, lm_17, sm_17, lm_18, sm_18, lm_19, sm_19, lm_20, sm_20, lm_21, sm_21, rm_0, rm_1, wm_1, rm_2, wm_2, rm_3, rm_4, rm_5, rm_6, rm_7, rm_8, wm_8, rm_9, wm_9, rm_10, wm_10, rm_11, wm_11, rm_12, wm_12, rm_13, wm_13, rm_14, wm_14, rm_15, rm_16, wm_16, rm_17, wm_17, rm_18, rm_19, wm_19, rm_20, rm_21, rm_22, wm_22, rm_23, wm_23, rm_24, rm_25, wm_25, rm_26, wm_26, rm_27, wm_27, rm_28, wm_28, rm_29, wm_29, rm_30, rm_31, wm_31, rm_32, rm_33, rm_34, wm_34, rm_35, rm_36, rm_37, rm_38, wm_38, rm_39, rm_40, rm_41, rm_42, nI_leP, if_neg (show ¬ 28 ≤ i by omega), h.2.2.1 13 (by omega), e']
theorem M_laysBack (k : Nat) (d : AH) (x : XS) (m : MS) : ∃ m', callR (k + 1) n_X4_laysBack [.ref 153] (P d x m) = some (.inl none, P d x m') ∧ CpM 10 10 28 (fun k => m.2.1 13 k) m m' := by
  obtain ⟨m', e, h⟩ := M_laysBackL (callR k) d x m 28 0 m (by omega) (CpM_0 _ _ _ _)
  refine ⟨m', ?_, h⟩
  rw [← e, nI_0]
  simp (disch := omega) only [e_X4_laysBack_0, c_X4_laysBack, cond_true, cond_false, Option.bind_some, rI_s, rL_s, rR_s, rV_s, cnd_d, cnd_ne, cnd_eq, bI_d0, bI_t0, ite_not, decide_eq_false_iff_not, decide_eq_true_eq, lg_cmp_ge, lg_cmp_le, lg_cmp_gt, lg_cmp_lt, lg_cmp_eq, okb_1, okb_0, okb_b, isO_M, lm_1, sm_1, lm_2, sm_2, lm_3, sm_3, lm_4, sm_4, lm_5, sm_5, lm_6, sm_6, lm_7, sm_7, lm_8, sm_8, lm_9, sm_9, lm_10, sm_10, lm_11, sm_11, lm_12, sm_12, lm_13, sm_13, lm_14, sm_14, lm_15, sm_15, lm_16, sm_16, lm_17, sm_17, lm_18, sm_18, lm_19, sm_19, lm_20, sm_20, lm_21, sm_21, rm_0, rm_1, wm_1, rm_2, wm_2, rm_3, rm_4, rm_5, rm_6, rm_7, rm_8, wm_8, rm_9, wm_9, rm_10, wm_10, rm_11, wm_11, rm_12, wm_12, rm_13, wm_13, rm_14, wm_14, rm_15, rm_16, wm_16, rm_17, wm_17, rm_18, rm_19, wm_19, rm_20, rm_21, rm_22, wm_22, rm_23, wm_23, rm_24, rm_25, wm_25, rm_26, wm_26, rm_27, wm_27, rm_28, wm_28, rm_29, wm_29, rm_30, rm_31, wm_31, rm_32, rm_33, rm_34, wm_34, rm_35, rm_36, rm_37, rm_38, wm_38, rm_39, rm_40, rm_41, rm_42]
/-! a State is copied -/
def StAt (h : AH) (b : Nat) (s : SS) : Prop := b + 6 ≤ h.1 ∧ ∀ r, r < 6 → h.2.2 (b + r) = sCell b s r
theorem StAt_eq {h : AH} {b : Nat} {s : SS} (e : StAt h b s) : sput h b s = h := by
  unfold sput
  refine Prod.ext rfl (Prod.ext rfl ?_)
  funext a
  show (if b ≤ a ∧ a < b + 6 then sCell b s (a - b) else h.2.2 a) = _
  by_cases c : b ≤ a ∧ a < b + 6
  · rw [if_pos c, ← e.2 (a - b) (by omega), show b + (a - b) = a by omega]
  · rw [if_neg c]
theorem StAt_sput {h : AH} {b : Nat} (s : SS) (hb : b + 6 ≤ h.1) : StAt (sput h b s) b s := ⟨hb, fun r hr => by
  show (if b ≤ b + r ∧ b + r < b + 6 then sCell b s (b + r - b) else h.2.2 (b + r)) = _
  rw [if_pos (by omega), show b + r - b = r by omega]⟩
theorem StAt_ne {h : AH} {b b2 : Nat} {s2 : SS} (s : SS) (e : StAt h b2 s2) (hd : b + 6 ≤ b2 ∨ b2 + 6 ≤ b) : StAt (sput h b s) b2 s2 := ⟨e.1, fun r hr => by
  show (if b ≤ b2 + r ∧ b2 + r < b + 6 then sCell b s (b2 + r - b) else h.2.2 (b2 + r)) = _
  rw [if_neg (by omega)]
  exact e.2 r hr⟩
theorem StAt_P (d : AH) (x : XS) (m : MS) (t : Nat) (ht : t < 22) : StAt (P d x m) (sAd t) (x.2.2.2.1 t) := by
  have := StAt_sput (h := P d x m) (x.2.2.2.1 t) (P_len d x m t ht)
  rwa [P_g d x m t ht] at this
def EqS (s s' : SS) : Prop := (∀ j, j < 5 → ∀ h, h < 6 → s'.1 j h = s.1 j h) ∧ ∀ k, 5 ≤ k → k < 10 → s'.2 k = s.2 k
theorem X_copyL (E : AEn) (h : AH) (b b2 : Nat) (s2 : SS) (hb : b + 6 ≤ h.1) (h2 : StAt h b2 s2) (hd : b + 6 ≤ b2 ∨ b2 + 6 ≤ b) : ∀ (r i : Nat) (s : SS), i + r = 6 → (∀ j, j < 5 → ∀ g, g < i → s.1 j g = s2.1 j g) → ∃ s', evR T_X2_copyFrom E 2 ([(0, .ref b), (1, .ref b2), (2, .int (nI i))], [], sput h b s) = some (.inl none, sput h b s') ∧ EqS s2 s'
  | 0, i, s, hi, hs => by
    have e : i = 6 := by omega
    subst e
    have hl : ∀ s, b2 + 6 ≤ (sput h b s).1 := fun s => h2.1
    have q5 : ∀ s, rdI (sput h b s) b2 2 5 = some (s2.2 5) := fun s => by rw [← StAt_eq (StAt_ne s h2 hd)]; exact rs_5 _ _ _ (hl s)
    have q6 : ∀ s, rdI (sput h b s) b2 2 6 = some (s2.2 6) := fun s => by rw [← StAt_eq (StAt_ne s h2 hd)]; exact rs_6 _ _ _ (hl s)
    have q7 : ∀ s, rdI (sput h b s) b2 2 7 = some (s2.2 7) := fun s => by rw [← StAt_eq (StAt_ne s h2 hd)]; exact rs_7 _ _ _ (hl s)
    have q8 : ∀ s, rdI (sput h b s) b2 2 8 = some (s2.2 8) := fun s => by rw [← StAt_eq (StAt_ne s h2 hd)]; exact rs_8 _ _ _ (hl s)
    have q9 : ∀ s, rdI (sput h b s) b2 2 9 = some (s2.2 9) := fun s => by rw [← StAt_eq (StAt_ne s h2 hd)]; exact rs_9 _ _ _ (hl s)
    refine ⟨sF (sF (sF (sF (sF s 5 (s2.2 5)) 6 (s2.2 6)) 7 (s2.2 7)) 8 (s2.2 8)) 9 (s2.2 9), ?_, hs, fun k h5 h10 => ?_⟩
    · rw [e_X2_copyFrom_2]
      simp (disch := omega) only [e_X2_copyFrom_74, cond_true, cond_false, Option.bind_some, rI_s, rL_s, rR_s, rV_s, cnd_d, cnd_ne, cnd_eq, bI_d0, bI_t0, ite_not, decide_eq_false_iff_not, decide_eq_true_eq, lg_cmp_ge, lg_cmp_le, lg_cmp_gt, lg_cmp_lt, lg_cmp_eq, okb_1, okb_0, okb_b, li_2, li_3, li_4, li_5, li_6, li_7, li_8, li_9, li_10, li_11, li_12, li_13, li_14, li_15, li_16, li_18, li_20, li_22, li_24, li_25, li_26, li_28, li_32, li_38, li_40, li_43, li_44, li_45, li_46, li_47, li_48, li_49, li_50, li_54, li_56, li_59, li_60, li_61, li_64, li_91, li_93, li_99, li_100, li_111, li_112, li_117, li_122, li_123, li_131, li_132, li_200, li_255, li_256, li_400, li_560, li_9999, li_10000, li_99999, li_65536, pk_mul, nI_add, nI_1, neg_lt0, neg_le0, nI_nn, nI_nlt0, le_rT, if_true, ws_5, ws_6, ws_7, ws_8, ws_9, q5, q6, q7, q8, q9]
    · have : k = 5 ∨ k = 6 ∨ k = 7 ∨ k = 8 ∨ k = 9 := by omega
      rcases this with rfl | rfl | rfl | rfl | rfl <;> simp [sF, va_up]
  | r + 1, i, s, hi, hs => by
    have hl : ∀ s, b2 + 6 ≤ (sput h b s).1 := fun s => h2.1
    have hR : ∀ s, sput (sput h b s) b2 s2 = sput h b s := fun s => StAt_eq (StAt_ne s h2 hd)
    have q0 : ∀ s, rdR (sput h b s) b2 2 0 = some (b2 + 1) ∧ ldI (sput h b s) (b2 + 1) 0 (nI i) = some (s2.1 0 i) := fun s => by rw [← hR s]; exact ⟨rs_0 _ _ _ (hl s), ls_0 _ _ _ (hl s) i (by omega)⟩
    have q1 : ∀ s, rdR (sput h b s) b2 2 1 = some (b2 + 2) ∧ ldI (sput h b s) (b2 + 2) 0 (nI i) = some (s2.1 1 i) := fun s => by rw [← hR s]; exact ⟨rs_1 _ _ _ (hl s), ls_1 _ _ _ (hl s) i (by omega)⟩
    have q2 : ∀ s, rdR (sput h b s) b2 2 2 = some (b2 + 3) ∧ ldI (sput h b s) (b2 + 3) 0 (nI i) = some (s2.1 2 i) := fun s => by rw [← hR s]; exact ⟨rs_2 _ _ _ (hl s), ls_2 _ _ _ (hl s) i (by omega)⟩
    have q3 : ∀ s, rdR (sput h b s) b2 2 3 = some (b2 + 4) ∧ ldI (sput h b s) (b2 + 4) 0 (nI i) = some (s2.1 3 i) := fun s => by rw [← hR s]; exact ⟨rs_3 _ _ _ (hl s), ls_3 _ _ _ (hl s) i (by omega)⟩
    have q4 : ∀ s, rdR (sput h b s) b2 2 4 = some (b2 + 5) ∧ ldI (sput h b s) (b2 + 5) 0 (nI i) = some (s2.1 4 i) := fun s => by rw [← hR s]; exact ⟨rs_4 _ _ _ (hl s), ls_4 _ _ _ (hl s) i (by omega)⟩
    obtain ⟨s', e', h'⟩ := X_copyL E h b b2 s2 hb h2 hd r (i + 1) (sA (sA (sA (sA (sA s 0 i (s2.1 0 i)) 1 i (s2.1 1 i)) 2 i (s2.1 2 i)) 3 i (s2.1 3 i)) 4 i (s2.1 4 i)) (by omega) (fun j hj g hg => by
      have : j = 0 ∨ j = 1 ∨ j = 2 ∨ j = 3 ∨ j = 4 := by omega
      have hs' := hs j hj
      by_cases e : g = i
      · subst e
        rcases this with rfl | rfl | rfl | rfl | rfl <;> simp [sA, va_up]
      · have hs'' := hs' g (by omega)
        rcases this with rfl | rfl | rfl | rfl | rfl <;> simp [sA, va_up, e, hs''])
    refine ⟨s', ?_, h'⟩
    rw [← e', e_X2_copyFrom_2]
    simp (disch := omega) only [e_X2_copyFrom_8, cond_true, cond_false, Option.bind_some, rI_s, rL_s, rR_s, rV_s, cnd_d, cnd_ne, cnd_eq, bI_d0, bI_t0, ite_not, decide_eq_false_iff_not, decide_eq_true_eq, lg_cmp_ge, lg_cmp_le, lg_cmp_gt, lg_cmp_lt, lg_cmp_eq, okb_1, okb_0, okb_b, li_2, li_3, li_4, li_5, li_6, li_7, li_8, li_9, li_10, li_11, li_12, li_13, li_14, li_15, li_16, li_18, li_20, li_22, li_24, li_25, li_26, li_28, li_32, li_38, li_40, li_43, li_44, li_45, li_46, li_47, li_48, li_49, li_50, li_54, li_56, li_59, li_60, li_61, li_64, li_91, li_93, li_99, li_100, li_111, li_112, li_117, li_122, li_123, li_131, li_132, li_200, li_255, li_256, li_400, li_560, li_9999, li_10000, li_99999, li_65536, pk_mul, nI_add, nI_1, neg_lt0, neg_le0, nI_nn, nI_nlt0, isO_s, rs_0, ls_0, ss_0, rs_1, ls_1, ss_1, rs_2, ls_2, ss_2, rs_3, ls_3, ss_3, rs_4, ls_4, ss_4, rs_5, ws_5, rs_6, ws_6, rs_7, ws_7, rs_8, ws_8, rs_9, ws_9, nI_leP, if_neg (show ¬ 6 ≤ i by omega), (q0 _).1, (q0 _).2, (q1 _).1, (q1 _).2, (q2 _).1, (q2 _).2, (q3 _).1, (q3 _).2, (q4 _).1, (q4 _).2]
theorem X_copyFrom (k : Nat) (h : AH) (b b2 : Nat) (s s2 : SS) (hb : StAt h b s) (h2 : StAt h b2 s2) (hd : b + 6 ≤ b2 ∨ b2 + 6 ≤ b) : ∃ s', callR (k + 1) n_X2_copyFrom [.ref b, .ref b2] h = some (.inl none, sput h b s') ∧ EqS s2 s' := by
  obtain ⟨s', e, q⟩ := X_copyL (callR k) h b b2 s2 hb.1 h2 hd 6 0 s (by omega) (fun j _ g hg => absurd hg (by omega))
  refine ⟨s', ?_, q⟩
  rw [StAt_eq hb, nI_0] at e
  rw [← e]
  have ho : isO h b 2 = true := by
    rw [← StAt_eq hb]
    exact isO_s _ _ _ hb.1
  simp (disch := omega) only [c_X2_copyFrom, e_X2_copyFrom_0, cond_true, cond_false, Option.bind_some, rI_s, rL_s, rR_s, rV_s, cnd_d, cnd_ne, cnd_eq, bI_d0, bI_t0, ite_not, decide_eq_false_iff_not, decide_eq_true_eq, lg_cmp_ge, lg_cmp_le, lg_cmp_gt, lg_cmp_lt, lg_cmp_eq, okb_1, okb_0, okb_b, ho]
theorem VX_EqS {C : AC} {A : AA} {s s' : SS} (h6 : C.1 ≤ 6) (h : VX C A s) (e : EqS s s') : VX C A s' := by
  obtain ⟨a1, az, ⟨a8, a9, a5⟩, a6, a7, ag⟩ := h
  obtain ⟨e1, e2⟩ := e
  refine ⟨fun h hh => ?_, fun h hn hh => ?_, ⟨?_, ?_, ?_⟩, ?_, fun hx => ?_, ?_⟩
  · rw [e1 0 (by omega) h (by omega), e1 1 (by omega) h (by omega), e1 2 (by omega) h (by omega), e1 4 (by omega) h (by omega)]; exact a1 h hh
  · rw [e1 0 (by omega) h (by omega), e1 1 (by omega) h (by omega)]; exact az h hn hh
  · rw [e2 8 (by omega) (by omega)]; exact a8
  · rw [e2 9 (by omega) (by omega)]; exact a9
  · rw [e2 5 (by omega) (by omega)]; exact a5
  · rw [e2 6 (by omega) (by omega)]; exact a6
  · rw [e2 7 (by omega) (by omega)]; exact a7 hx
  · exact ⟨by rw [← ag.1]; exact sumI_c fun i hi => e1 3 (by omega) i hi, fun h hh => by rw [e1 3 (by omega) h (by omega)]; exact ag.2 h hh⟩
