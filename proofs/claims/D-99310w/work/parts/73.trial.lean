/-! trials of m's: the state is laid back behind each -/
def KM (m0 m : MS) : Prop := (∀ k, k < 28 → m.2.1 13 k = m0.2.1 10 (10 + k)) ∧ (∀ i, i < 10 ∨ 38 ≤ i → m.2.1 10 i = m0.2.1 10 i) ∧ (∀ j, j = 1 ∨ j = 2 ∨ j = 4 ∨ j = 5 ∨ j = 12 ∨ j = 18 ∨ j = 19 ∨ j = 20 ∨ j = 21 → m.2.1 j = m0.2.1 j) ∧ ∀ k, k ≠ 19 → k ≠ 26 → k ≠ 28 → k ≠ 29 → k ≠ 34 → m.1 k = m0.1 k
theorem KM_keep {m m1 : MS} (h : CpM 13 0 28 (fun k => m.2.1 10 (10 + k)) m m1) : KM m m1 ∧ m1.2.1 10 = m.2.1 10 := by
  obtain ⟨a1, a2, a3, a4, a5⟩ := h
  refine ⟨⟨fun k hk => ?_, fun i _ => by rw [a3 10 (by omega)], fun j hj => a3 j (by omega), fun k _ _ _ _ _ => by rw [a4]⟩, a3 10 (by omega)⟩
  have h4 : m1.2.1 13 (0 + k) = m.2.1 10 (10 + k) := a1 k hk
  rw [Nat.zero_add] at h4
  exact h4
theorem KM_fr {m m1 m2 : MS} (h : KM m m1) (f : Fr m1 m2) : KM m m2 := by
  obtain ⟨a1, a2, a3, a4⟩ := h
  obtain ⟨b1, b2, b3, b4⟩ := f
  exact ⟨fun k hk => by rw [b1 13 (by omega)]; exact a1 k hk, fun i hi => by rw [b2 i hi]; exact a2 i hi, fun j hj => by rw [b1 j (by omega)]; exact a3 j hj, fun k p q r s t => by rw [b3 k p q r s]; exact a4 k p q r s t⟩
theorem KM_back {m m2 m3 : MS} (h : KM m m2) (c : CpM 10 10 28 (fun k => m2.2.1 13 k) m2 m3) : KM m m3 ∧ m3.2.1 10 = m.2.1 10 := by
  obtain ⟨a1, a2, a3, a4⟩ := h
  obtain ⟨c1, c2, c3, c4, c5⟩ := c
  have e : m3.2.1 10 = m.2.1 10 := by
    funext i
    by_cases hi : 10 ≤ i ∧ i < 38
    · have h4 : m3.2.1 10 (10 + (i - 10)) = m2.2.1 13 (i - 10) := c1 (i - 10) (by omega)
      rw [show 10 + (i - 10) = i by omega] at h4
      have h5 := a1 (i - 10) (by omega)
      rw [show 10 + (i - 10) = i by omega] at h5
      rw [h4, h5]
    · rw [c2 i (by omega), a2 i (by omega)]
  exact ⟨⟨fun k hk => by rw [c3 13 (by omega)]; exact a1 k hk, fun i _ => by rw [e], fun j hj => by rw [c3 j (by omega)]; exact a3 j hj, fun k p q r s t => by rw [c4]; exact a4 k p q r s t⟩, e⟩
theorem KM_sim {m m3 : MS} (h : KM m m3) (e : m3.2.1 10 = m.2.1 10) : SimM m m3 := ⟨h.2.2.2, fun j hj => by
  by_cases c : j = 10
  · rw [c]; exact e
  · exact h.2.2.1 j (by omega)⟩
theorem KM_VC {C : AC} {m m1 : MS} {fo F} (h : KM m m1) (hC : VC (CW C fo F none) m) : VC (CW C fo F none) m1 := by
  obtain ⟨a1, a2, a3, a4⟩ := h
  obtain ⟨⟨h1, h6⟩, h2, h3, h4, h5, hq, h7⟩ := hC
  refine ⟨⟨by rw [a2 3 (by omega)]; exact h1, h6⟩, fun a b ha hb => by rw [a2 _ (by omega)]; exact h2 a b ha hb, fun h hh => by rw [a2 _ (by omega)]; exact h3 h hh, by rw [a2 2 (by omega)]; exact h4, ?_, ?_, h7⟩
  · rw [a4 22 (by omega) (by omega) (by omega) (by omega) (by omega)]
    cases fo with
    | none => exact h5
    | some r =>
      obtain ⟨r', hr, h5, h6'⟩ := h5
      exact ⟨r', hr, h5, RuM_fr h6' fun j hj => a3 j (by omega)⟩
  · show m1.1 25 < 0
    rw [a4 25 (by omega) (by omega) (by omega) (by omega) (by omega)]
    exact hq
theorem KM_VA {C : AC} {A : AA} {m m1 : MS} {fo F} (h : KM m m1) (e : m1.2.1 10 = m.2.1 10) (hA : VA (CW C fo F none) A m) : VA (CW C fo F none) A m1 := by
  obtain ⟨a1, a2, a11, a12, ag, -⟩ := hA
  unfold VA
  rw [e, h.2.2.2 27 (by omega) (by omega) (by omega) (by omega) (by omega)]
  exact ⟨a1, a2, a11, a12, ag, fun h => nomatch h⟩
/-- whether the brigade comes to g in r hours -/
def comeB (C : AC) (g : Int32) : Nat → AA → Bool
  | 0, _ => false
  | r + 1, A => if cameA C A = g then true else comeB C g r (hourA C A)
theorem X_comeL (k : Nat) (d : AH) (m : MS) (C : AC) (g : Int32) : ∀ (r i : Nat) (A : AA) (x : XS), i + r = 20 → WA C A → XC d C x → XA C A x 1 → ∃ x', evR T_X0_isComeTo (callR (k + 204)) 5 ([(0, .ref 0), (1, .int g), (2, .int 20), (3, .int 0), (4, .int (nI i))], [], P d x m) = some (.inl (some (.int (bI (comeB C g r A)))), P d x' m) ∧ FX 1 x x'
  | 0, i, A, x, hi, hW, hC, hA => by
    refine ⟨x, ?_, FX_refl 1 x⟩
    rw [e_X0_isComeTo_5]
    simp (disch := omega) only [e_X0_isComeTo_44, cond_true, cond_false, Option.bind_some, rI_s, rL_s, rR_s, rV_s, cnd_d, cnd_ne, cnd_eq, bI_d0, bI_t0, ite_not, decide_eq_false_iff_not, decide_eq_true_eq, lg_cmp_ge, lg_cmp_le, lg_cmp_gt, lg_cmp_lt, lg_cmp_eq, okb_1, okb_0, okb_b, eq_self, if_true, if_false, Bool.true_eq_false, Bool.false_eq_true, li_2, li_3, li_4, li_5, li_6, li_7, li_8, li_9, li_10, li_11, li_12, li_13, li_14, li_15, li_16, li_18, li_20, li_22, li_24, li_25, li_26, li_28, li_32, li_38, li_40, li_43, li_44, li_45, li_46, li_47, li_48, li_49, li_50, li_54, li_56, li_59, li_60, li_61, li_64, li_91, li_93, li_99, li_100, li_111, li_112, li_117, li_122, li_123, li_131, li_132, li_200, li_255, li_256, li_400, li_560, li_9999, li_10000, li_99999, li_65536, pk_mul, nI_add, nI_1, neg_lt0, neg_le0, nI_nn, nI_nlt0, show i = 20 by omega, le_rT]
    rfl
  | r + 1, i, A, x, hi, hW, hC, hA => by
    obtain ⟨x1, e1, f1, c1, v1⟩ := X_hour k d x m 1 (by omega) C A hW hC hA
    have e1' : callR (k + 204) n_X0_goesOn [.ref 0, .ref 12] (P d x m) = _ := e1
    unfold comeB
    by_cases c : cameA C A = g
    · refine ⟨x1, ?_, f1⟩
      rw [if_pos c, e_X0_isComeTo_5]
      simp (disch := omega) only [e_X0_isComeTo_11, e_X0_isComeTo_15, e_X0_isComeTo_32, e_X0_isComeTo_37, cond_true, cond_false, Option.bind_some, rI_s, rL_s, rR_s, rV_s, cnd_d, cnd_ne, cnd_eq, bI_d0, bI_t0, ite_not, decide_eq_false_iff_not, decide_eq_true_eq, lg_cmp_ge, lg_cmp_le, lg_cmp_gt, lg_cmp_lt, lg_cmp_eq, okb_1, okb_0, okb_b, eq_self, if_true, if_false, Bool.true_eq_false, Bool.false_eq_true, li_2, li_3, li_4, li_5, li_6, li_7, li_8, li_9, li_10, li_11, li_12, li_13, li_14, li_15, li_16, li_18, li_20, li_22, li_24, li_25, li_26, li_28, li_32, li_38, li_40, li_43, li_44, li_45, li_46, li_47, li_48, li_49, li_50, li_54, li_56, li_59, li_60, li_61, li_64, li_91, li_93, li_99, li_100, li_111, li_112, li_117, li_122, li_123, li_131, li_132, li_200, li_255, li_256, li_400, li_560, li_9999, li_10000, li_99999, li_65536, pk_mul, nI_add, nI_1, neg_lt0, neg_le0, nI_nn, nI_nlt0, nI_leP, if_neg (show ¬ 20 ≤ i by omega), rx_2, e1', rx_18, c1, c]
      rw [e_X0_isComeTo_5]
      simp (disch := omega) only [e_X0_isComeTo_11, e_X0_isComeTo_44, cond_true, cond_false, Option.bind_some, rI_s, rL_s, rR_s, rV_s, cnd_d, cnd_ne, cnd_eq, bI_d0, bI_t0, ite_not, decide_eq_false_iff_not, decide_eq_true_eq, lg_cmp_ge, lg_cmp_le, lg_cmp_gt, lg_cmp_lt, lg_cmp_eq, okb_1, okb_0, okb_b, eq_self, if_true, if_false, Bool.true_eq_false, Bool.false_eq_true, li_2, li_3, li_4, li_5, li_6, li_7, li_8, li_9, li_10, li_11, li_12, li_13, li_14, li_15, li_16, li_18, li_20, li_22, li_24, li_25, li_26, li_28, li_32, li_38, li_40, li_43, li_44, li_45, li_46, li_47, li_48, li_49, li_50, li_54, li_56, li_59, li_60, li_61, li_64, li_91, li_93, li_99, li_100, li_111, li_112, li_117, li_122, li_123, li_131, li_132, li_200, li_255, li_256, li_400, li_560, li_9999, li_10000, li_99999, li_65536, pk_mul, nI_add, nI_1, neg_lt0, neg_le0, nI_nn, nI_nlt0, show ¬ (1 : Int32) = 0 by decide]
      split <;> rfl
    · obtain ⟨x2, e2, f2⟩ := X_comeL k d m C g r (i + 1) (hourA C A) x1 (by omega) (WA_hour hW) (XC_fr hC f1) v1
      refine ⟨x2, ?_, FX_trans f1 f2⟩
      rw [if_neg c, ← e2, e_X0_isComeTo_5]
      simp (disch := omega) only [e_X0_isComeTo_11, e_X0_isComeTo_15, e_X0_isComeTo_36, e_X0_isComeTo_37, cond_true, cond_false, Option.bind_some, rI_s, rL_s, rR_s, rV_s, cnd_d, cnd_ne, cnd_eq, bI_d0, bI_t0, ite_not, decide_eq_false_iff_not, decide_eq_true_eq, lg_cmp_ge, lg_cmp_le, lg_cmp_gt, lg_cmp_lt, lg_cmp_eq, okb_1, okb_0, okb_b, eq_self, if_true, if_false, Bool.true_eq_false, Bool.false_eq_true, li_2, li_3, li_4, li_5, li_6, li_7, li_8, li_9, li_10, li_11, li_12, li_13, li_14, li_15, li_16, li_18, li_20, li_22, li_24, li_25, li_26, li_28, li_32, li_38, li_40, li_43, li_44, li_45, li_46, li_47, li_48, li_49, li_50, li_54, li_56, li_59, li_60, li_61, li_64, li_91, li_93, li_99, li_100, li_111, li_112, li_117, li_122, li_123, li_131, li_132, li_200, li_255, li_256, li_400, li_560, li_9999, li_10000, li_99999, li_65536, pk_mul, nI_add, nI_1, neg_lt0, neg_le0, nI_nn, nI_nlt0, nI_leP, if_neg (show ¬ 20 ≤ i by omega), rx_2, e1', rx_18, c1, c]
