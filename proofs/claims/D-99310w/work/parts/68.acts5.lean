theorem i_mod19 : ∀ a, a < 20 → nI (a + 19) - nI (a + 19) / nI 20 * nI 20 = nI ((a + 19) % 20) := by decide
theorem M_undoL (E : AEn) (d : AH) (x : XS) (m : MS) (u : Nat) (hu : u < 20) (h31 : m.1 31 = nI u) : ∀ (r i : Nat) (m1 : MS), i + r = 28 → CpM 10 10 i (fun c => m.2.1 12 (28 * u + c)) m m1 → ∃ m', evR T_X4_undo E 21 ([(0, .ref 153), (1, .int (nI i))], [], P d x m1) = some (.inl (some (.int (nI u))), P d x m') ∧ CpM 10 10 28 (fun c => m.2.1 12 (28 * u + c)) m m'
  | 0, i, m1, hi, h => by
    have e : i = 28 := by omega
    subst e
    refine ⟨m1, ?_, h⟩
    have e31 : m1.1 31 = nI u := by rw [h.2.2.2.1]; exact h31
    rw [e_X4_undo_21]
    simp (disch := omega) only [e_X4_undo_56, cond_true, cond_false, Option.bind_some, rI_s, rL_s, rR_s, rV_s, cnd_d, cnd_ne, cnd_eq, bI_d0, bI_t0, ite_not, decide_eq_false_iff_not, decide_eq_true_eq, lg_cmp_ge, lg_cmp_le, lg_cmp_gt, lg_cmp_lt, lg_cmp_eq, okb_1, okb_0, okb_b, eq_self, if_true, if_false, Bool.true_eq_false, Bool.false_eq_true, li_2, li_3, li_4, li_5, li_6, li_7, li_8, li_9, li_10, li_11, li_12, li_13, li_14, li_15, li_16, li_18, li_20, li_22, li_24, li_25, li_26, li_28, li_32, li_38, li_40, li_43, li_44, li_45, li_46, li_47, li_48, li_49, li_50, li_54, li_56, li_59, li_60, li_61, li_64, li_91, li_93, li_99, li_100, li_111, li_112, li_117, li_122, li_123, li_131, li_132, li_200, li_255, li_256, li_400, li_560, li_9999, li_10000, li_99999, li_65536, pk_mul, nI_add, nI_1, neg_lt0, neg_le0, nI_nn, nI_nlt0, isO_M, lm_1, sm_1, lm_2, sm_2, lm_3, sm_3, lm_4, sm_4, lm_5, sm_5, lm_6, sm_6, lm_7, sm_7, lm_8, sm_8, lm_9, sm_9, lm_10, sm_10, lm_11, sm_11, lm_12, sm_12, lm_13, sm_13, lm_14, sm_14, lm_15, sm_15, lm_16, sm_16, lm_17, sm_17, lm_18, sm_18, lm_19, sm_19, lm_20, sm_20, lm_21, sm_21, rm_0, rm_1, wm_1, rm_2, wm_2, rm_3, rm_4, rm_5, rm_6, rm_7, rm_8, wm_8, rm_9, wm_9, rm_10, wm_10, rm_11, wm_11, rm_12, wm_12, rm_13, wm_13, rm_14, wm_14, rm_15, rm_16, wm_16, rm_17, wm_17, rm_18, rm_19, wm_19, rm_20, rm_21, rm_22, wm_22, rm_23, wm_23, rm_24, rm_25, wm_25, rm_26, wm_26, rm_27, wm_27, rm_28, wm_28, rm_29, wm_29, rm_30, rm_31, wm_31, rm_32, rm_33, rm_34, wm_34, rm_35, rm_36, rm_37, rm_38, wm_38, rm_39, rm_40, rm_41, rm_42, le_rT, e31]
  | r + 1, i, m1, hi, h => by
    have hs := CpM_s h
    obtain ⟨m', e', h'⟩ := M_undoL E d x m u hu h31 r (i + 1) _ (by omega) hs
    refine ⟨m', ?_, h'⟩
    have e31 : m1.1 31 = nI u := by rw [h.2.2.2.1]; exact h31
    rw [← e', e_X4_undo_21]
    simp (disch := omega) only [e_X4_undo_27, cond_true, cond_false, Option.bind_some, rI_s, rL_s, rR_s, rV_s, cnd_d, cnd_ne, cnd_eq, bI_d0, bI_t0, ite_not, decide_eq_false_iff_not, decide_eq_true_eq, lg_cmp_ge, lg_cmp_le, lg_cmp_gt, lg_cmp_lt, lg_cmp_eq, okb_1, okb_0, okb_b, li_2, li_3, li_4, li_5, li_6, li_7, li_8, li_9, li_10, li_11, li_12, li_13, li_14, li_15, li_16, li_18, li_20, li_22, li_24, li_25, li_26, li_28, li_32, li_38, li_40, li_43, li_44, li_45, li_46, li_47, li_48, li_49, li_50, li_54, li_56, li_59, li_60, li_61, li_64, li_91, li_93, li_99, li_100, li_111, li_112, li_117, li_122, li_123, li_131, li_132, li_200, li_255, li_256, li_400, li_560, li_9999, li_10000, li_99999, li_65536, pk_mul, nI_add, nI_1, neg_lt0, neg_le0, nI_nn, nI_nlt0, isO_M, lm_1, sm_1, lm_2, sm_2, lm_3, sm_3, lm_4, sm_4, lm_5, sm_5, lm_6, sm_6, lm_7, sm_7, lm_8, sm_8, lm_9, sm_9, lm_10, sm_10, lm_11, sm_11, lm_12, sm_12, lm_13, sm_13, lm_14, sm_14, lm_15, sm_15, lm_16, sm_16, lm_17, sm_17, lm_18, sm_18, lm_19, sm_19, lm_20, sm_20, lm_21, sm_21, rm_0, rm_1, wm_1, rm_2, wm_2, rm_3, rm_4, rm_5, rm_6, rm_7, rm_8, wm_8, rm_9, wm_9, rm_10, wm_10, rm_11, wm_11, rm_12, wm_12, rm_13, wm_13, rm_14, wm_14, rm_15, rm_16, wm_16, rm_17, wm_17, rm_18, rm_19, wm_19, rm_20, rm_21, rm_22, wm_22, rm_23, wm_23, rm_24, rm_25, wm_25, rm_26, wm_26, rm_27, wm_27, rm_28, wm_28, rm_29, wm_29, rm_30, rm_31, wm_31, rm_32, rm_33, rm_34, wm_34, rm_35, rm_36, rm_37, rm_38, wm_38, rm_39, rm_40, rm_41, rm_42, nI_leP, if_neg (show ¬ 28 ≤ i by omega), e31, h.2.2.1 12 (by omega)]
theorem RelP_un {Z : Nat → Bool} {d : AH} {x x' : XS} {m m' : MS} {C : AC} {n u a t nr : Nat} {F : Nat → (Nat → Int64) → Int64} {fo : Option Nat} (h : RelP Z d x m C n (u + 1) a t nr F fo) (f : FX 0 (xF (xF x 21 (nI ((a + 19) % 20))) 20 (nI u)) x') (g : Fr (mF m 31 (nI u)) m') : RelP Z d x' m' C n u ((a + 19) % 20) t nr F fo := by
  apply RelP_st ?_ f g
  obtain ⟨hZ, hV, hN, hP, hT, hR, hF, hD, hBr, hI⟩ := h
  obtain ⟨p1, p2, p3, p4, p5, p6⟩ := hP
  refine ⟨hZ, hV, hN, ⟨by omega, Nat.mod_lt _ (by omega), xF_s _ _ _, mF_s _ _ _, by rw [xF_n _ _ _ _ (by omega), xF_s], fun j hj => ?_⟩, hT, RR_fr hR rfl rfl rfl fun _ _ => rfl, hF, hD, hBr, hI⟩
  obtain ⟨A', q1, q2, q3⟩ := p6 j (by omega)
  refine ⟨A', ?_, q2, q3⟩
  rw [show ((a + 19) % 20 + 20 - u + j) % 20 = (a + 20 - (u + 1) + j) % 20 by omega]
  exact q1
theorem op_undo : OpOK n_X0_undo n_X4_undo [] := by
  intro Z d x m hR k
  obtain ⟨C, A, n, u, a, t, nr, F, fo, hP, hS⟩ := Rel_to hR
  have hPR := hP.2.2.2.1
  have h6 := hP.2.1.1.1.2
  obtain ⟨p1, p2, p3, p4, p5, p6⟩ := id hPR
  cases u with
  | zero =>
    refine OpOK_n hR (-1) ?_ ?_
    · simp (disch := omega) only [c_X0_undo, e_X0_undo_0, e_X0_undo_7, cond_true, cond_false, Option.bind_some, rI_s, rL_s, rR_s, rV_s, cnd_d, cnd_ne, cnd_eq, bI_d0, bI_t0, ite_not, decide_eq_false_iff_not, decide_eq_true_eq, lg_cmp_ge, lg_cmp_le, lg_cmp_gt, lg_cmp_lt, lg_cmp_eq, okb_1, okb_0, okb_b, eq_self, if_true, if_false, Bool.true_eq_false, Bool.false_eq_true, isO_X, rx_20, p3, nI_0]
    · simp (disch := omega) only [c_X4_undo, e_X4_undo_0, e_X4_undo_7, cond_true, cond_false, Option.bind_some, rI_s, rL_s, rR_s, rV_s, cnd_d, cnd_ne, cnd_eq, bI_d0, bI_t0, ite_not, decide_eq_false_iff_not, decide_eq_true_eq, lg_cmp_ge, lg_cmp_le, lg_cmp_gt, lg_cmp_lt, lg_cmp_eq, okb_1, okb_0, okb_b, eq_self, if_true, if_false, Bool.true_eq_false, Bool.false_eq_true, isO_M, rm_31, p4, nI_0]
  | succ u =>
    obtain ⟨A', q1, q2, q3⟩ := p6 u (by omega)
    rw [show (a + 20 - (u + 1) + u) % 20 = (a + 19) % 20 by omega] at q1
    have ha : (a + 19) % 20 < 20 := Nat.mod_lt _ (by omega)
    have hs : sAd (2 + (a + 19) % 20) = 28 + 6 * ((a + 19) % 20) := by unfold sAd; rw [if_neg (by omega), if_neg (by omega)]; omega
    obtain ⟨s', e1, qe⟩ := X_copyFrom (k + 998) (P d (xF (xF x 21 (nI ((a + 19) % 20))) 20 (nI u)) m) 6 (28 + 6 * ((a + 19) % 20)) (x.2.2.2.1 0) (x.2.2.2.1 (2 + (a + 19) % 20)) (StAt_P d (xF (xF x 21 (nI ((a + 19) % 20))) 20 (nI u)) m 0 (by omega)) (by rw [← hs]; exact StAt_P d (xF (xF x 21 (nI ((a + 19) % 20))) 20 (nI u)) m (2 + (a + 19) % 20) (by omega)) (by omega)
    have ep : sput (P d (xF (xF x 21 (nI ((a + 19) % 20))) 20 (nI u)) m) 6 s' = P d (xS (xF (xF x 21 (nI ((a + 19) % 20))) 20 (nI u)) 0 s') m := P_s d _ m 0 (by omega) s'
    rw [ep] at e1
    obtain ⟨m1, g1, km⟩ := M_undoL (callR (k + 999)) d (xS (xF (xF x 21 (nI ((a + 19) % 20))) 20 (nI u)) 0 s') (mF m 31 (nI u)) u (by omega) (mF_s _ _ _) 28 0 _ (by omega) (CpM_0 _ _ _ _)
    obtain ⟨k1, k2, k3, k4, k5⟩ := km
    have hFr : Fr (mF m 31 (nI u)) m1 := ⟨fun j hj => k3 j hj, fun i hi => k2 i (by omega), fun _ _ _ _ _ => by rw [k4], by rw [k5]⟩
    have hP2 := RelP_un hP (xS_FX _ 0 s') hFr
    have hsd : m1.2.1 10 = layS (m.2.1 10) (fun i => m.2.1 12 (28 * u + i)) := by
      funext i
      unfold layS
      by_cases c : 10 ≤ i ∧ i < 38
      · rw [if_pos c]
        have := k1 (i - 10) (by omega)
        rw [show 10 + (i - 10) = i by omega] at this
        exact this
      · rw [if_neg c]; exact k2 i (by omega)
    have hS2 : RelS (xS (xF (xF x 21 (nI ((a + 19) % 20))) 20 (nI u)) 0 s') m1 C A' := ⟨by rw [hsd]; exact q2, by rw [xS_s]; exact VX_EqS h6 q1 qe, q3⟩
    refine ⟨nI u, Z, d, _, m1, ?_, ?_, Rel_of hP2 hS2, by omega, by omega⟩
    · have hn : ¬ nI (u + 1) = 0 := by rw [← nI_0, nI_eqP (by omega) (by omega)]; omega
      simp (disch := omega) only [c_X0_undo, e_X0_undo_0, e_X0_undo_9, cond_true, cond_false, Option.bind_some, rI_s, rL_s, rR_s, rV_s, cnd_d, cnd_ne, cnd_eq, bI_d0, bI_t0, ite_not, decide_eq_false_iff_not, decide_eq_true_eq, lg_cmp_ge, lg_cmp_le, lg_cmp_gt, lg_cmp_lt, lg_cmp_eq, okb_1, okb_0, okb_b, eq_self, if_true, if_false, Bool.true_eq_false, Bool.false_eq_true, isO_X, rx_20, rx_21, rx_1, rx_19, wx_20, wx_21, p3, p5, hn, xF_s, xF_n, nI_pred, show (20 : Int32) = nI 20 from rfl, nI_add, i_mod19 a p2, lq_27, e1, xS_1]
    · have hn : ¬ nI (u + 1) = 0 := by rw [← nI_0, nI_eqP (by omega) (by omega)]; omega
      rw [nI_0] at g1
      simp (disch := omega) only [c_X4_undo, e_X4_undo_0, e_X4_undo_9, cond_true, cond_false, Option.bind_some, rI_s, rL_s, rR_s, rV_s, cnd_d, cnd_ne, cnd_eq, bI_d0, bI_t0, ite_not, decide_eq_false_iff_not, decide_eq_true_eq, lg_cmp_ge, lg_cmp_le, lg_cmp_gt, lg_cmp_lt, lg_cmp_eq, okb_1, okb_0, okb_b, eq_self, if_true, if_false, Bool.true_eq_false, Bool.false_eq_true, isO_M, rm_31, wm_31, p4, hn, nI_pred, g1]
theorem op_force (v : Int32) : OpS n_X0_force n_X4_force [.int v] := by
  intro Z d x m hR k
  obtain ⟨C, A, n, u, a, t, nr, F, fo, hP, hS⟩ := Rel_to hR
  obtain ⟨hZ, hV, hN, hPR, hT, hRR, hF, hD, hBr, hI⟩ := id hP
  have hn6 := hRR.1
  have hx : ∀ m', callR (k + 1000) n_X0_force [.ref 0, .int v] (P d x m') = if v = -1 ∨ hB nr v = true then some (.inl (some (.int (x.1 4))), P d (xF x 4 v) m') else some (.inl (some (.int (-2))), P d x m') := by
    intro m'
    have hd : ((-1 : Int64) ≤ v.toInt64 ∧ v.toInt64 ≤ (nI nr - 1).toInt64) = (v = -1 ∨ hB nr v = true) := by
      rw [show (-1 : Int64) = (-1 : Int32).toInt64 from rfl, l_le, l_le]
      apply propext
      constructor
      · rintro ⟨h1, h2⟩
        by_cases c : v = -1
        · exact Or.inl c
        · right
          have h0 : 0 ≤ v := by
            have e1 := Int32.le_iff_toInt_le.mp h1
            rw [Int32.le_iff_toInt_le]
            have e2 : v.toInt ≠ -1 := fun e => c (Int32.toInt_inj.mp e)
            have e3 : (-1 : Int32).toInt = -1 := rfl
            have e4 : (0 : Int32).toInt = 0 := rfl
            rw [e3] at e1
            rw [e4]
            omega
          have := (le_pred (n := nr) (by omega) v) ▸ (⟨h0, h2⟩ : 0 ≤ v ∧ v ≤ nI nr - 1)
          exact decide_eq_true this
      · rintro (rfl | h)
        · refine ⟨by decide, ?_⟩
          cases nr with
          | zero => decide
          | succ nr => rw [nI_pred]; exact Int32.le_trans (by decide) (nI_pos' (n := nr) (by omega))
        · have := (le_pred (n := nr) (by omega) v).symm ▸ (of_decide_eq_true h)
          exact ⟨Int32.le_trans (by decide) this.1, this.2⟩
    simp (disch := omega) only [c_X0_force, e_X0_force_0, e_X0_force_21, e_X0_force_24, cond_true, cond_false, Option.bind_some, rI_s, rL_s, rR_s, rV_s, cnd_d, cnd_ne, cnd_eq, bI_d0, bI_t0, ite_not, decide_eq_false_iff_not, decide_eq_true_eq, lg_cmp_ge, lg_cmp_le, lg_cmp_gt, lg_cmp_lt, lg_cmp_eq, okb_1, okb_0, okb_b, eq_self, if_true, if_false, Bool.true_eq_false, Bool.false_eq_true, isO_X, rx_3, X_size, hRR.2.1, X_in, rx_4, wx_4, hd]
  have hm : ∀ x', callR (k + 1000) n_X4_force [.ref 153, .int v] (P d x' m) = if v = -1 ∨ hB nr v = true then some (.inl (some (.int (x.1 4))), P d x' (mF m 22 v)) else some (.inl (some (.int (-2))), P d x' m) := by
    intro x'
    have hru : callR (k + 999) n_X4_isRule [.ref 153, .int v] (P d x' m) = some (.inl (some (.int (bI (hB nr v)))), P d x' m) := by
      simp (disch := omega) only [e_X4_isRule_0, e_X4_isRule_4, e_X4_isRule_12, e_X4_isRule_16, e_X4_isRule_17, c_X4_isRule, cond_true, cond_false, Option.bind_some, rI_s, rL_s, rR_s, rV_s, cnd_d, cnd_ne, cnd_eq, bI_d0, bI_t0, ite_not, decide_eq_false_iff_not, decide_eq_true_eq, lg_cmp_ge, lg_cmp_le, lg_cmp_gt, lg_cmp_lt, lg_cmp_eq, okb_1, okb_0, okb_b, eq_self, if_true, if_false, Bool.true_eq_false, Bool.false_eq_true, isO_M, rm_2, hRR.2.2.1]
      unfold hB
      by_cases c1 : v < 0
      · rw [if_pos c1, show decide (0 ≤ v ∧ v < nI nr) = false from decide_eq_false fun h => absurd c1 (Int32.not_lt.mpr h.1)]; rfl
      · rw [if_neg c1]
        by_cases c2 : nI nr ≤ v
        · rw [if_pos c2, show decide (0 ≤ v ∧ v < nI nr) = false from decide_eq_false fun h => absurd h.2 (Int32.not_lt.mpr c2)]; rfl
        · rw [if_neg c2, show decide (0 ≤ v ∧ v < nI nr) = true from decide_eq_true ⟨Int32.not_lt.mp c1, Int32.not_le.mp c2⟩]; rfl
    rw [hF.1, ← hF.2.1]
    by_cases c : v = -1
    · rw [if_pos (Or.inl c)]
      simp (disch := omega) only [c_X4_force, e_X4_force_0, e_X4_force_16, cond_true, cond_false, Option.bind_some, rI_s, rL_s, rR_s, rV_s, cnd_d, cnd_ne, cnd_eq, bI_d0, bI_t0, ite_not, decide_eq_false_iff_not, decide_eq_true_eq, lg_cmp_ge, lg_cmp_le, lg_cmp_gt, lg_cmp_lt, lg_cmp_eq, okb_1, okb_0, okb_b, eq_self, if_true, if_false, Bool.true_eq_false, Bool.false_eq_true, isO_M, rm_22, wm_22, c]
    · cases c2 : hB nr v with
      | true =>
        rw [if_pos (Or.inr rfl)]
        rw [c2] at hru
        simp (disch := omega) only [c_X4_force, e_X4_force_0, e_X4_force_5, e_X4_force_16, cond_true, cond_false, Option.bind_some, rI_s, rL_s, rR_s, rV_s, cnd_d, cnd_ne, cnd_eq, bI_d0, bI_t0, ite_not, decide_eq_false_iff_not, decide_eq_true_eq, lg_cmp_ge, lg_cmp_le, lg_cmp_gt, lg_cmp_lt, lg_cmp_eq, okb_1, okb_0, okb_b, eq_self, if_true, if_false, Bool.true_eq_false, Bool.false_eq_true, isO_M, rm_22, wm_22, c, hru]
      | false =>
        rw [if_neg (fun h => h.elim c (fun h => nomatch h))]
        rw [c2] at hru
        simp (disch := omega) only [c_X4_force, e_X4_force_0, e_X4_force_5, e_X4_force_13, cond_true, cond_false, Option.bind_some, rI_s, rL_s, rR_s, rV_s, cnd_d, cnd_ne, cnd_eq, bI_d0, bI_t0, ite_not, decide_eq_false_iff_not, decide_eq_true_eq, lg_cmp_ge, lg_cmp_le, lg_cmp_gt, lg_cmp_lt, lg_cmp_eq, okb_1, okb_0, okb_b, eq_self, if_true, if_false, Bool.true_eq_false, Bool.false_eq_true, isO_M, c, hru]
  by_cases c : v = -1 ∨ hB nr v = true
  · have hvo : ∃ fo', v = oI fo' ∧ ∀ r, fo' = some r → r < nr := by
      rcases c with c | c
      · exact ⟨none, c, fun r e => nomatch e⟩
      · obtain ⟨j, hj, e⟩ := hB_of (by omega) c
        exact ⟨some j, e, fun r e => by cases e; exact hj⟩
    obtain ⟨fo', e, hfo⟩ := hvo
    refine ⟨x.1 4, xF x 4 v, mF m 22 v, fun m' => by rw [hx, if_pos c], fun x' => by rw [hm, if_pos c], ?_⟩
    rw [e]
    exact Rel_force hR fo' fun r er => ⟨nr, hn6, hRR.2.1, hfo r er⟩
  · exact ⟨-2, x, m, fun m' => by rw [hx, if_neg c], fun x' => by rw [hm, if_neg c], hR⟩
