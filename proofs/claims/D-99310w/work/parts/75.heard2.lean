def heardA (C : AC) (q : Nat) (A : AA) : Nat → Nat → Option Nat
  | 0, _ => none
  | r + 1, i => if comeB C (nI q) 20 (setA A 2 q (nI i)) = true then some i else heardA C q A r (i + 1)
def heardV (o : Option Nat) : Int32 := match o with
  | none => -2
  | some i => nI i
theorem SimX_XC {d : AH} {C : AC} {x x' : XS} {fo F} (s : SimX x x') (h : XC d (CW C fo F none) x) : XC d (CW C fo F none) x' := by
  obtain ⟨s1, s2, s3, s4⟩ := s
  obtain ⟨h1, h6, h2, h3, h4⟩ := h
  refine ⟨by rw [s4]; exact h1, h6, ?_, ?_, h4⟩
  · rw [s1 4 (by omega) (by omega) (by omega) (by omega)]
    cases fo with
    | none => exact h2
    | some r =>
      obtain ⟨r', hr, a, b⟩ := h2
      exact ⟨r', hr, a, RuX_fr b s4 (s1 102 (by omega) (by omega) (by omega) (by omega))⟩
  · show x'.1 17 = 0
    rw [s1 17 (by omega) (by omega) (by omega) (by omega)]
    exact h3
theorem X_heardL (k : Nat) (d : AH) (m : MS) (C : AC) (fo : Option Nat) (F : Nat → (Nat → Int64) → Int64) (q : Nat) (hq : q < C.1) (h6 : C.1 ≤ 6) (A : AA) (hW : WA (CW C fo F none) A) (x0 : XS) (hC : XC d (CW C fo F none) x0) (hX : VX C A (x0.2.2.2.1 0)) : ∀ (r i : Nat) (x : XS), i + r = 21 → SimX x0 x → ∃ x', evR T_X0_heard (callR (k + 205)) 12 ([(0, .ref 0), (1, .int (nI q)), (2, .int (nI i))], [], P d x m) = some (.inl (some (.int (heardV (heardA (CW C fo F none) q A r i)))), P d x' m) ∧ SimX x0 x'
  | 0, i, x, hi, hs => by
    refine ⟨x, ?_, hs⟩
    rw [e_X0_heard_12]
    simp (disch := omega) only [e_X0_heard_57, cond_true, cond_false, Option.bind_some, rI_s, rL_s, rR_s, rV_s, cnd_d, cnd_ne, cnd_eq, bI_d0, bI_t0, ite_not, decide_eq_false_iff_not, decide_eq_true_eq, lg_cmp_ge, lg_cmp_le, lg_cmp_gt, lg_cmp_lt, lg_cmp_eq, okb_1, okb_0, okb_b, eq_self, if_true, if_false, Bool.true_eq_false, Bool.false_eq_true, li_2, li_3, li_4, li_5, li_6, li_7, li_8, li_9, li_10, li_11, li_12, li_13, li_14, li_15, li_16, li_18, li_20, li_22, li_24, li_25, li_26, li_28, li_32, li_38, li_40, li_43, li_44, li_45, li_46, li_47, li_48, li_49, li_50, li_54, li_56, li_59, li_60, li_61, li_64, li_91, li_93, li_99, li_100, li_111, li_112, li_117, li_122, li_123, li_131, li_132, li_200, li_255, li_256, li_400, li_560, li_9999, li_10000, li_99999, li_65536, pk_mul, nI_add, nI_1, neg_lt0, neg_le0, nI_nn, nI_nlt0, nI_ltP, show i = 21 by omega, show 20 < 21 by omega]
    rfl
  | r + 1, i, x, hi, hs => by
    obtain ⟨x1, e1, f1, v1, -⟩ := X_keep (k + 204) d x m C A h6 (by rw [hs.2.2.1 0 (by omega)]; exact hX)
    have hs1 := SimX_trans hs (FX_Sim f1)
    have f2 := xS_FX x1 1 (sA (x1.2.2.2.1 1) 2 q (nI i))
    have hs2 := SimX_trans hs1 (FX_Sim f2)
    obtain ⟨x3, e3, f3⟩ := X_comeL k d m (CW C fo F none) (nI q) 20 0 (setA A 2 q (nI i)) (xS x1 1 (sA (x1.2.2.2.1 1) 2 q (nI i))) (by omega) (WA_says hW q _) (SimX_XC hs2 hC) (Rel_XA (by rw [xS_s]; exact VX_says v1 q hq _))
    have hs3 := SimX_trans hs2 (FX_Sim f3)
    have r5 : rdR (P d x1 m) 12 2 2 = some 15 := rp_2 d x1 m 1 (by omega)
    have s5 : stI (P d x1 m) 15 0 (nI q) (nI i) = some (P d (xS x1 1 (sA (x1.2.2.2.1 1) 2 q (nI i))) m) := sp_2 d x1 m 1 (by omega) q _ (by omega)
    have e3' : callR (k + 205) n_X0_isComeTo [.ref 0, .int (nI q), .int 20] (P d (xS x1 1 (sA (x1.2.2.2.1 1) 2 q (nI i))) m) = some (.inl (some (.int (bI (comeB (CW C fo F none) (nI q) 20 (setA A 2 q (nI i)))))), P d x3 m) := by
      rw [← e3, nI_0]
      simp (disch := omega) only [c_X0_isComeTo, e_X0_isComeTo_0, cond_true, cond_false, Option.bind_some, rI_s, rL_s, rR_s, rV_s, cnd_d, cnd_ne, cnd_eq, bI_d0, bI_t0, ite_not, decide_eq_false_iff_not, decide_eq_true_eq, lg_cmp_ge, lg_cmp_le, lg_cmp_gt, lg_cmp_lt, lg_cmp_eq, okb_1, okb_0, okb_b, eq_self, if_true, if_false, Bool.true_eq_false, Bool.false_eq_true, isO_X]
    unfold heardA
    cases c : comeB (CW C fo F none) (nI q) 20 (setA A 2 q (nI i)) with
    | true =>
      rw [c] at e3'
      refine ⟨x3, ?_, hs3⟩
      rw [e_X0_heard_12]
      simp (disch := omega) only [e_X0_heard_18, e_X0_heard_49, cond_true, cond_false, Option.bind_some, rI_s, rL_s, rR_s, rV_s, cnd_d, cnd_ne, cnd_eq, bI_d0, bI_t0, ite_not, decide_eq_false_iff_not, decide_eq_true_eq, lg_cmp_ge, lg_cmp_le, lg_cmp_gt, lg_cmp_lt, lg_cmp_eq, okb_1, okb_0, okb_b, eq_self, if_true, if_false, Bool.true_eq_false, Bool.false_eq_true, li_2, li_3, li_4, li_5, li_6, li_7, li_8, li_9, li_10, li_11, li_12, li_13, li_14, li_15, li_16, li_18, li_22, li_24, li_25, li_26, li_28, li_32, li_38, li_40, li_43, li_44, li_45, li_46, li_47, li_48, li_49, li_50, li_54, li_56, li_59, li_60, li_61, li_64, li_91, li_93, li_99, li_100, li_111, li_112, li_117, li_122, li_123, li_131, li_132, li_200, li_255, li_256, li_400, li_560, li_9999, li_10000, li_99999, li_65536, pk_mul, nI_add, nI_1, neg_lt0, neg_le0, nI_nn, nI_nlt0, show (20 : Int32) < nI i ↔ False from iff_false_intro (by rw [show (20 : Int32) = nI 20 from rfl, nI_ltP (by omega) (by omega)]; omega), rx_1, rx_2, e1, r5, s5, e3']
      rfl
    | false =>
      rw [c] at e3'
      obtain ⟨x4, e4, hs4⟩ := X_heardL k d m C fo F q hq h6 A hW x0 hC hX r (i + 1) x3 (by omega) hs3
      refine ⟨x4, ?_, hs4⟩
      rw [if_neg (by decide), ← e4, e_X0_heard_12]
      simp (disch := omega) only [e_X0_heard_18, e_X0_heard_51, cond_true, cond_false, Option.bind_some, rI_s, rL_s, rR_s, rV_s, cnd_d, cnd_ne, cnd_eq, bI_d0, bI_t0, ite_not, decide_eq_false_iff_not, decide_eq_true_eq, lg_cmp_ge, lg_cmp_le, lg_cmp_gt, lg_cmp_lt, lg_cmp_eq, okb_1, okb_0, okb_b, eq_self, if_true, if_false, Bool.true_eq_false, Bool.false_eq_true, li_2, li_3, li_4, li_5, li_6, li_7, li_8, li_9, li_10, li_11, li_12, li_13, li_14, li_15, li_16, li_18, li_22, li_24, li_25, li_26, li_28, li_32, li_38, li_40, li_43, li_44, li_45, li_46, li_47, li_48, li_49, li_50, li_54, li_56, li_59, li_60, li_61, li_64, li_91, li_93, li_99, li_100, li_111, li_112, li_117, li_122, li_123, li_131, li_132, li_200, li_255, li_256, li_400, li_560, li_9999, li_10000, li_99999, li_65536, pk_mul, nI_add, nI_1, neg_lt0, neg_le0, nI_nn, nI_nlt0, show (20 : Int32) < nI i ↔ False from iff_false_intro (by rw [show (20 : Int32) = nI 20 from rfl, nI_ltP (by omega) (by omega)]; omega), rx_1, rx_2, e1, r5, s5, e3']
