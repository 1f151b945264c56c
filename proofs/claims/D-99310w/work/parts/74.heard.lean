theorem M_comeL (k : Nat) (d : AH) (x : XS) (C : AC) (g : Int32) : ∀ (r i : Nat) (A : AA) (m : MS), i + r = 20 → WA C A → VC C m → VA C A m → ∃ m', evR T_X4_comesTo (callR (k + 7)) 5 ([(0, .ref 153), (1, .int g), (2, .int 20), (3, .int 0), (4, .int (nI i))], [], P d x m) = evR T_X4_comesTo (callR (k + 7)) 40 ([(0, .ref 153), (3, .int (bI (comeB C g r A)))], [], P d x m') ∧ Fr m m'
  | 0, i, A, m, hi, hW, hC, hA => by
    refine ⟨m, ?_, Fr_refl m⟩
    rw [e_X4_comesTo_5]
    simp (disch := omega) only [cond_true, cond_false, Option.bind_some, rI_s, rL_s, rR_s, rV_s, cnd_d, cnd_ne, cnd_eq, bI_d0, bI_t0, ite_not, decide_eq_false_iff_not, decide_eq_true_eq, lg_cmp_ge, lg_cmp_le, lg_cmp_gt, lg_cmp_lt, lg_cmp_eq, okb_1, okb_0, okb_b, eq_self, if_true, if_false, Bool.true_eq_false, Bool.false_eq_true, li_2, li_3, li_4, li_5, li_6, li_7, li_8, li_9, li_10, li_11, li_12, li_13, li_14, li_15, li_16, li_18, li_20, li_22, li_24, li_25, li_26, li_28, li_32, li_38, li_40, li_43, li_44, li_45, li_46, li_47, li_48, li_49, li_50, li_54, li_56, li_59, li_60, li_61, li_64, li_91, li_93, li_99, li_100, li_111, li_112, li_117, li_122, li_123, li_131, li_132, li_200, li_255, li_256, li_400, li_560, li_9999, li_10000, li_99999, li_65536, pk_mul, nI_add, nI_1, neg_lt0, neg_le0, nI_nn, nI_nlt0, show i = 20 by omega, le_rT]
    rfl
  | r + 1, i, A, m, hi, hW, hC, hA => by
    obtain ⟨m1, e1, f1, c1, v1⟩ := M_passes k d x m C A hW hC hA
    unfold comeB
    by_cases c : cameA C A = g
    · refine ⟨m1, ?_, f1⟩
      rw [if_pos c, e_X4_comesTo_5]
      simp (disch := omega) only [e_X4_comesTo_11, e_X4_comesTo_15, e_X4_comesTo_28, e_X4_comesTo_33, cond_true, cond_false, Option.bind_some, rI_s, rL_s, rR_s, rV_s, cnd_d, cnd_ne, cnd_eq, bI_d0, bI_t0, ite_not, decide_eq_false_iff_not, decide_eq_true_eq, lg_cmp_ge, lg_cmp_le, lg_cmp_gt, lg_cmp_lt, lg_cmp_eq, okb_1, okb_0, okb_b, eq_self, if_true, if_false, Bool.true_eq_false, Bool.false_eq_true, li_2, li_3, li_4, li_5, li_6, li_7, li_8, li_9, li_10, li_11, li_12, li_13, li_14, li_15, li_16, li_18, li_20, li_22, li_24, li_25, li_26, li_28, li_32, li_38, li_40, li_43, li_44, li_45, li_46, li_47, li_48, li_49, li_50, li_54, li_56, li_59, li_60, li_61, li_64, li_91, li_93, li_99, li_100, li_111, li_112, li_117, li_122, li_123, li_131, li_132, li_200, li_255, li_256, li_400, li_560, li_9999, li_10000, li_99999, li_65536, pk_mul, nI_add, nI_1, neg_lt0, neg_le0, nI_nn, nI_nlt0, nI_leP, if_neg (show ¬ 20 ≤ i by omega), e1, rm_29, c1, c]
      rw [e_X4_comesTo_5]
      simp (disch := omega) only [e_X4_comesTo_11, cond_true, cond_false, Option.bind_some, rI_s, rL_s, rR_s, rV_s, cnd_d, cnd_ne, cnd_eq, bI_d0, bI_t0, ite_not, decide_eq_false_iff_not, decide_eq_true_eq, lg_cmp_ge, lg_cmp_le, lg_cmp_gt, lg_cmp_lt, lg_cmp_eq, okb_1, okb_0, okb_b, eq_self, if_true, if_false, Bool.true_eq_false, Bool.false_eq_true, li_2, li_3, li_4, li_5, li_6, li_7, li_8, li_9, li_10, li_11, li_12, li_13, li_14, li_15, li_16, li_18, li_20, li_22, li_24, li_25, li_26, li_28, li_32, li_38, li_40, li_43, li_44, li_45, li_46, li_47, li_48, li_49, li_50, li_54, li_56, li_59, li_60, li_61, li_64, li_91, li_93, li_99, li_100, li_111, li_112, li_117, li_122, li_123, li_131, li_132, li_200, li_255, li_256, li_400, li_560, li_9999, li_10000, li_99999, li_65536, pk_mul, nI_add, nI_1, neg_lt0, neg_le0, nI_nn, nI_nlt0, show ¬ (1 : Int32) = 0 by decide]
      split <;> rfl
    · obtain ⟨m2, e2, f2⟩ := M_comeL k d x C g r (i + 1) (hourA C A) m1 (by omega) (WA_hour hW) (VC_fr hC f1) v1
      refine ⟨m2, ?_, Fr_trans f1 f2⟩
      rw [if_neg c, ← e2, e_X4_comesTo_5]
      simp (disch := omega) only [e_X4_comesTo_11, e_X4_comesTo_15, e_X4_comesTo_32, e_X4_comesTo_33, cond_true, cond_false, Option.bind_some, rI_s, rL_s, rR_s, rV_s, cnd_d, cnd_ne, cnd_eq, bI_d0, bI_t0, ite_not, decide_eq_false_iff_not, decide_eq_true_eq, lg_cmp_ge, lg_cmp_le, lg_cmp_gt, lg_cmp_lt, lg_cmp_eq, okb_1, okb_0, okb_b, eq_self, if_true, if_false, Bool.true_eq_false, Bool.false_eq_true, li_2, li_3, li_4, li_5, li_6, li_7, li_8, li_9, li_10, li_11, li_12, li_13, li_14, li_15, li_16, li_18, li_20, li_22, li_24, li_25, li_26, li_28, li_32, li_38, li_40, li_43, li_44, li_45, li_46, li_47, li_48, li_49, li_50, li_54, li_56, li_59, li_60, li_61, li_64, li_91, li_93, li_99, li_100, li_111, li_112, li_117, li_122, li_123, li_131, li_132, li_200, li_255, li_256, li_400, li_560, li_9999, li_10000, li_99999, li_65536, pk_mul, nI_add, nI_1, neg_lt0, neg_le0, nI_nn, nI_nlt0, nI_leP, if_neg (show ¬ 20 ≤ i by omega), e1, rm_29, c1, c]
theorem M_comesTo (k : Nat) (d : AH) (x : XS) (C : AC) (g : Int32) (A : AA) (m0 m : MS) (hW : WA C A) (hC : VC C m) (hA : VA C A m) (hk : KM m0 m) : ∃ m', callR (k + 8) n_X4_comesTo [.ref 153, .int g, .int 20] (P d x m) = some (.inl (some (.int (bI (comeB C g 20 A)))), P d x m') ∧ KM m0 m' ∧ m'.2.1 10 = m0.2.1 10 := by
  obtain ⟨m1, e1, f1⟩ := M_comeL k d x C g 20 0 A m (by omega) hW hC hA
  obtain ⟨m2, e2, q2⟩ := M_laysBack (k + 6) d x m1
  obtain ⟨h1, h2⟩ := KM_back (KM_fr hk f1) q2
  refine ⟨m2, ?_, h1, h2⟩
  rw [nI_0] at e1
  simp (disch := omega) only [c_X4_comesTo, e_X4_comesTo_0, e_X4_comesTo_40, cond_true, cond_false, Option.bind_some, rI_s, rL_s, rR_s, rV_s, cnd_d, cnd_ne, cnd_eq, bI_d0, bI_t0, ite_not, decide_eq_false_iff_not, decide_eq_true_eq, lg_cmp_ge, lg_cmp_le, lg_cmp_gt, lg_cmp_lt, lg_cmp_eq, okb_1, okb_0, okb_b, eq_self, if_true, if_false, Bool.true_eq_false, Bool.false_eq_true, isO_M, e1, e2]
/-- a house's cell set, in a question -/
def setA (A : AA) (j q : Nat) (v : Int32) : AA := (va_up A.1 j (va_up (A.1 j) q v), A.2)
theorem VA_says {C : AC} {A : AA} {m : MS} {fo F} (hA : VA (CW C fo F none) A m) (q : Nat) (hq : q < C.1) (h6 : C.1 ≤ 6) (v : Int32) : VA (CW C fo F none) (setA A 2 q v) (mA m 10 (14 + 4 * q + 2) v) := by
  obtain ⟨a1, ⟨a13, a10, aw⟩, a11, a12, ag, arow⟩ := hA
  refine ⟨fun h hh => ?_, ⟨?_, ?_, ?_⟩, ?_, fun hx => ?_, ?_, arow⟩
  · have hh' : h < C.1 := hh
    obtain ⟨c0, c1, c2, c3⟩ := a1 h hh
    refine ⟨?_, ?_, ?_, ?_⟩
    · rw [mA_n _ _ _ _ (by omega), c0]; simp [setA, va_up]
    · rw [mA_n _ _ _ _ (by omega), c1]; simp [setA, va_up]
    · by_cases e : h = q
      · subst e; rw [show 16 + 4 * h = 14 + 4 * h + 2 by omega, mA_s]; simp [setA, va_up]
      · rw [mA_n _ _ _ _ (by omega), c2]; simp [setA, va_up, e]
    · rw [mA_n _ _ _ _ (by omega), c3]; simp [setA, va_up]
  · rw [mA_n _ _ _ _ (by omega)]; exact a13
  · rw [mA_n _ _ _ _ (by omega)]; exact a10
  · rw [mA_n _ _ _ _ (by omega)]; exact aw
  · rw [mA_n _ _ _ _ (by omega)]; exact a11
  · rw [mA_n _ _ _ _ (by omega)]; exact a12 hx
  · refine Eq.trans ?_ ag
    congr 1
    exact sumI_c fun i hi => by
      have : i < C.1 := hi
      rw [mA_n _ _ _ _ (by omega), mA_n _ _ _ _ (by omega)]
theorem VX_says {C : AC} {A : AA} {s : SS} (h : VX C A s) (q : Nat) (hq : q < C.1) (v : Int32) : VX C (setA A 2 q v) (sA s 2 q v) := by
  obtain ⟨b1, bz, b2, b3, b4, b5⟩ := h
  refine ⟨fun h hh => ?_, fun h hn hh => ?_, b2, b3, b4, ?_⟩
  · obtain ⟨c0, c1, c2, c3⟩ := b1 h hh
    refine ⟨?_, ?_, ?_, ?_⟩
    · rw [sA_o _ _ _ _ _ (by omega), c0]; simp [setA, va_up]
    · rw [sA_o _ _ _ _ _ (by omega), c1]; simp [setA, va_up]
    · by_cases e : h = q
      · subst e; rw [sA_s]; simp [setA, va_up]
      · rw [sA_n _ _ _ _ _ e, c2]; simp [setA, va_up, e]
    · rw [sA_o _ _ _ _ _ (by omega), c3]; simp [setA, va_up]
  · rw [sA_o _ _ _ _ _ (by omega), sA_o _ _ _ _ _ (by omega)]; exact bz h hn hh
  · rw [sA_o _ _ _ _ _ (by omega)]
    exact ⟨b5.1, fun h hh => by rw [b5.2 h hh]; simp [setA, va_up]⟩
theorem WA_says {C : AC} {A : AA} (h : WA C A) (q : Nat) (v : Int32) : WA C (setA A 2 q v) := by
  obtain ⟨w1, w2⟩ := h
  refine ⟨fun h hh => ?_, w2⟩
  have : (setA A 2 q v).1 1 h = A.1 1 h := by simp [setA, va_up]
  rw [this]
  exact w1 h hh
