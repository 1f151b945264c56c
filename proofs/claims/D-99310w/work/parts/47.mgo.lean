theorem VA_send {C : AC} {A : AA} {m : MS} (hC : VC C m) (hA : VA C A m) (p : A.2.2 0 ≤ C.1) (o : Option Nat) (ho : ∀ h, o = some h → h < C.1) (k : Nat) (d : AH) (x : XS) : ∃ m', callR (k + 2) n_X4_sends [.ref 153, .int (oI o)] (P d x m) = some (.inl none, P d x m') ∧ Fr m m' ∧ VA C (sendA C A o) m' := by
  have h6 := hC.1.2
  match o, ho with
  | none, _ => exact ⟨m, M_sends_n k d x m, Fr_refl m, hA⟩
  | some h, ho =>
    have hh := ho h rfl
    obtain ⟨a1, ⟨a13, a10, aw⟩, a11, a12, ag, arow⟩ := id hA
    refine ⟨_, M_sends k d x m (A.2.2 0) h (by omega) (by omega) a11, ?_, ?_⟩
    · split
      · exact Fr_refl m
      · exact Fr_trans (mA_Fr _ _ _ (by omega)) (mA_Fr _ _ _ (by omega))
    · unfold sendA
      by_cases e : h + 1 = A.2.2 0
      · simp only [if_pos e]; exact hA
      · simp only [if_neg e]
        have hfa := hC.2.1 (A.2.2 0) (h + 1) (by omega) (by omega)
        refine ⟨fun h hh => ?_, ⟨?_, ?_, ?_⟩, ?_, fun hx => ?_, ?_, arow⟩
        · simp (disch := omega) only [mA_n]; exact a1 h hh
        · simp only [mA_s]; exact hfa
        · simp (disch := omega) only [mA_n]; exact a10
        · simp (disch := omega) only [mA_n]; exact aw
        · simp (disch := omega) only [mA_n]; exact a11
        · simp (disch := omega) only [mA_n, mA_s]; rfl
        · show _ = A.2.1 3
          rw [← ag]
          congr 1
          exact sumI_c fun i _ => by simp (disch := omega) only [mA_n]
theorem tg_lt {C : AC} {A : AA} (hW : WA C A) : ∀ h, (tgA C A).1 = some h → h < C.1 := by
  unfold tgA
  split
  · exact fun h e => chF_lt _ _ _ _ e
  next q eq =>
    have := hW.2.2.2.2 q eq
    exact (nextR_lt (k := C.1) _ _ fun j hj => this.2 j (by omega)).1
theorem VA_row {C : AC} {A : AA} {m : MS} (hA : VA C A m) (i : Nat) (h : C.2.2.2.2.2.isSome = true → m.1 26 = nI i) : VA C (rowA A i) m := by
  obtain ⟨a1, a2, a11, a12, ag, arow⟩ := id hA
  exact ⟨a1, a2, a11, a12, ag, h⟩
theorem M_tg (k : Nat) (d : AH) (x : XS) (m : MS) (C : AC) (A : AA) (hW : WA C A) (hC : VC C m) (hA : VA C A m) : ∃ m', evR T_X4_goes (callR (k + 5)) 24 ([(0, .ref 153)], [], P d x m) = evR T_X4_goes (callR (k + 5)) 46 ([(0, .ref 153)], [], P d x m') ∧ Fr m m' ∧ VA C (sendA C (rowA A (tgA C A).2) (tgA C A).1) m' := by
  have htg := tg_lt hW
  have hrw := hC.2.2.2.2.2.1
  rw [e_X4_goes_24]
  unfold tgA at htg ⊢
  cases eq : C.2.2.2.2.2 with
  | none =>
    rw [eq] at hrw htg
    obtain ⟨m1, e1, s1⟩ := M_choice k d x m C A hW.2.2.1 hC hA
    obtain ⟨m2, e2, f2, v2⟩ := VA_send (VC_fr hC (SM_fr s1)) (VA_row (VA_SM hA s1) (A.2.2 2) (by rw [eq]; exact fun h => nomatch h)) hW.2.2.1 _ htg (k + 3) d x
    refine ⟨m2, ?_, Fr_trans (SM_fr s1) f2, v2⟩
    have hrw' : ¬ 0 ≤ m.1 25 := by simpa using hrw
    simp (disch := omega) only [e_X4_goes_32, e_X4_goes_39, e_X4_goes_43, e_X4_goes_53, e_X4_goes_54, e_X4_goes_72, e_X4_goes_73, c_X4_goes, cond_true, cond_false, Option.bind_some, rI_s, rL_s, rR_s, rV_s, cnd_d, cnd_ne, cnd_eq, bI_d0, bI_t0, ite_not, decide_eq_false_iff_not, decide_eq_true_eq, lg_cmp_ge, lg_cmp_le, lg_cmp_gt, lg_cmp_lt, lg_cmp_eq, okb_1, okb_0, okb_b, li_2, li_3, li_4, li_5, li_6, li_7, li_8, li_9, li_10, li_11, li_12, li_13, li_14, li_15, li_16, li_18, li_20, li_22, li_24, li_25, li_26, li_28, li_32, li_38, li_40, li_43, li_44, li_45, li_46, li_47, li_48, li_49, li_50, li_54, li_56, li_59, li_60, li_61, li_64, li_91, li_93, li_99, li_100, li_111, li_112, li_117, li_122, li_123, li_131, li_132, li_200, li_255, li_256, li_400, li_560, li_9999, li_10000, li_99999, li_65536, pk_mul, nI_add, nI_1, neg_lt0, neg_le0, nI_nn, nI_nlt0, isO_M, lm_1, sm_1, lm_2, sm_2, lm_3, sm_3, lm_4, sm_4, lm_5, sm_5, lm_6, sm_6, lm_7, sm_7, lm_8, sm_8, lm_9, sm_9, lm_10, sm_10, lm_11, sm_11, lm_12, sm_12, lm_13, sm_13, lm_14, sm_14, lm_15, sm_15, lm_16, sm_16, lm_17, sm_17, lm_18, sm_18, lm_19, sm_19, lm_20, sm_20, lm_21, sm_21, rm_0, rm_1, wm_1, rm_2, wm_2, rm_3, rm_4, rm_5, rm_6, rm_7, rm_8, wm_8, rm_9, wm_9, rm_10, wm_10, rm_11, wm_11, rm_12, wm_12, rm_13, wm_13, rm_14, wm_14, rm_15, rm_16, wm_16, rm_17, wm_17, rm_18, rm_19, wm_19, rm_20, rm_21, rm_22, wm_22, rm_23, wm_23, rm_24, rm_25, wm_25, rm_26, wm_26, rm_27, wm_27, rm_28, wm_28, rm_29, wm_29, rm_30, rm_31, wm_31, rm_32, rm_33, rm_34, wm_34, rm_35, rm_36, rm_37, rm_38, wm_38, rm_39, rm_40, rm_41, rm_42, if_neg hrw', e1, e2]
  | some q =>
    rw [eq] at hrw htg
    have hq := hW.2.2.2.2 q eq
    have h6 := hC.1.2
    have hp := hW.2.2.1
    have e1 := M_nextOfRow (k + 3) d x m (A.2.2 0) q.1 (A.2.2 2) q.2 (rA C A) (by omega) hrw.1 hq.1 hA.2.2.1 hrw.2.1 (hA.2.2.2.2.2 (by rw [eq]; rfl)) hrw.2.2 (fun h hh => by
      unfold rA
      rw [← hC.2.1 _ _ (by omega) (by omega)])
    obtain ⟨m2, e2, f2, v2⟩ := VA_send (C := C) (A := rowA A (nextR (rA C A) q.2 (q.1 - A.2.2 2) (A.2.2 2)).2) (m := mF m 26 (nI (nextR (rA C A) q.2 (q.1 - A.2.2 2) (A.2.2 2)).2)) (VC_fr hC (mF_Fr _ _ _ (by omega))) (by
      obtain ⟨a1, a2, a11, a12, ag, arow⟩ := id hA
      exact ⟨a1, a2, a11, a12, ag, fun _ => mF_s _ _ _⟩) hW.2.2.1 _ htg (k + 3) d x
    refine ⟨m2, ?_, Fr_trans (mF_Fr _ _ _ (by omega)) f2, v2⟩
    have hrw' : 0 ≤ m.1 25 := by rw [hrw.2.1]; exact nI_pos' (by omega)
    simp (disch := omega) only [e_X4_goes_32, e_X4_goes_39, e_X4_goes_43, e_X4_goes_53, e_X4_goes_54, e_X4_goes_72, e_X4_goes_73, c_X4_goes, cond_true, cond_false, Option.bind_some, rI_s, rL_s, rR_s, rV_s, cnd_d, cnd_ne, cnd_eq, bI_d0, bI_t0, ite_not, decide_eq_false_iff_not, decide_eq_true_eq, lg_cmp_ge, lg_cmp_le, lg_cmp_gt, lg_cmp_lt, lg_cmp_eq, okb_1, okb_0, okb_b, li_2, li_3, li_4, li_5, li_6, li_7, li_8, li_9, li_10, li_11, li_12, li_13, li_14, li_15, li_16, li_18, li_20, li_22, li_24, li_25, li_26, li_28, li_32, li_38, li_40, li_43, li_44, li_45, li_46, li_47, li_48, li_49, li_50, li_54, li_56, li_59, li_60, li_61, li_64, li_91, li_93, li_99, li_100, li_111, li_112, li_117, li_122, li_123, li_131, li_132, li_200, li_255, li_256, li_400, li_560, li_9999, li_10000, li_99999, li_65536, pk_mul, nI_add, nI_1, neg_lt0, neg_le0, nI_nn, nI_nlt0, isO_M, lm_1, sm_1, lm_2, sm_2, lm_3, sm_3, lm_4, sm_4, lm_5, sm_5, lm_6, sm_6, lm_7, sm_7, lm_8, sm_8, lm_9, sm_9, lm_10, sm_10, lm_11, sm_11, lm_12, sm_12, lm_13, sm_13, lm_14, sm_14, lm_15, sm_15, lm_16, sm_16, lm_17, sm_17, lm_18, sm_18, lm_19, sm_19, lm_20, sm_20, lm_21, sm_21, rm_0, rm_1, wm_1, rm_2, wm_2, rm_3, rm_4, rm_5, rm_6, rm_7, rm_8, wm_8, rm_9, wm_9, rm_10, wm_10, rm_11, wm_11, rm_12, wm_12, rm_13, wm_13, rm_14, wm_14, rm_15, rm_16, wm_16, rm_17, wm_17, rm_18, rm_19, wm_19, rm_20, rm_21, rm_22, wm_22, rm_23, wm_23, rm_24, rm_25, wm_25, rm_26, wm_26, rm_27, wm_27, rm_28, wm_28, rm_29, wm_29, rm_30, rm_31, wm_31, rm_32, rm_33, rm_34, wm_34, rm_35, rm_36, rm_37, rm_38, wm_38, rm_39, rm_40, rm_41, rm_42, if_pos hrw', e1, e2]
theorem i_ne0 {a : Int32} (h : 0 ≤ a) : (a = 0) = ¬ 0 < a := by
  apply propext
  constructor
  · intro e; subst e; decide
  · intro e
    exact Int32.le_antisymm (Int32.not_lt.mp e) h
theorem M_goes (k : Nat) (d : AH) (x : XS) (m : MS) (C : AC) (A : AA) (hW : WA C A) (hC : VC C m) (hA : VA C A m) : ∃ m', callR (k + 6) n_X4_goes [.ref 153] (P d x m) = some (.inl none, P d x m') ∧ Fr m m' ∧ VA C (goA C A) m' := by
  have h6 := hC.1.2
  have hp := hW.2.2.1
  unfold goA
  by_cases hb : busyA A = true
  · rw [if_pos hb]
    obtain ⟨m', e', f', v'⟩ := M_step (k + 4) d x m C A hA
    refine ⟨m', ?_, f', v'⟩
    rw [← e']
    simp (disch := omega) only [e_X4_goes_0, c_X4_goes, cond_true, cond_false, Option.bind_some, rI_s, rL_s, rR_s, rV_s, cnd_d, cnd_ne, cnd_eq, bI_d0, bI_t0, ite_not, decide_eq_false_iff_not, decide_eq_true_eq, lg_cmp_ge, lg_cmp_le, lg_cmp_gt, lg_cmp_lt, lg_cmp_eq, okb_1, okb_0, okb_b, isO_M, lm_1, sm_1, lm_2, sm_2, lm_3, sm_3, lm_4, sm_4, lm_5, sm_5, lm_6, sm_6, lm_7, sm_7, lm_8, sm_8, lm_9, sm_9, lm_10, sm_10, lm_11, sm_11, lm_12, sm_12, lm_13, sm_13, lm_14, sm_14, lm_15, sm_15, lm_16, sm_16, lm_17, sm_17, lm_18, sm_18, lm_19, sm_19, lm_20, sm_20, lm_21, sm_21, rm_0, rm_1, wm_1, rm_2, wm_2, rm_3, rm_4, rm_5, rm_6, rm_7, rm_8, wm_8, rm_9, wm_9, rm_10, wm_10, rm_11, wm_11, rm_12, wm_12, rm_13, wm_13, rm_14, wm_14, rm_15, rm_16, wm_16, rm_17, wm_17, rm_18, rm_19, wm_19, rm_20, rm_21, rm_22, wm_22, rm_23, wm_23, rm_24, rm_25, wm_25, rm_26, wm_26, rm_27, wm_27, rm_28, wm_28, rm_29, wm_29, rm_30, rm_31, wm_31, rm_32, rm_33, rm_34, wm_34, rm_35, rm_36, rm_37, rm_38, wm_38, rm_39, rm_40, rm_41, rm_42, M_isOnItsWay, hA.2.1.1]
    by_cases h0 : 0 < A.2.1 0
    · rw [if_pos h0]
    · rw [if_neg h0]
      have hb2 : A.2.2 0 ≠ 0 ∧ 0 < A.1 1 (A.2.2 0 - 1) := by
        have := of_decide_eq_true hb
        rcases this with h | h
        · exact absurd h h0
        · exact h
      obtain ⟨q, eq⟩ : ∃ q, A.2.2 0 = q + 1 := ⟨A.2.2 0 - 1, by omega⟩
      rw [eq, show q + 1 - 1 = q by omega] at hb2
      have hhe := (hA.1 q (by omega)).2.1
      have hh0 := (hW.1 q (by omega)).1
      simp (disch := omega) only [e_X4_goes_7, e_X4_goes_16, c_X4_goes, cond_true, cond_false, Option.bind_some, rI_s, rL_s, rR_s, rV_s, cnd_d, cnd_ne, cnd_eq, bI_d0, bI_t0, ite_not, decide_eq_false_iff_not, decide_eq_true_eq, lg_cmp_ge, lg_cmp_le, lg_cmp_gt, lg_cmp_lt, lg_cmp_eq, okb_1, okb_0, okb_b, isO_M, lm_1, sm_1, lm_2, sm_2, lm_3, sm_3, lm_4, sm_4, lm_5, sm_5, lm_6, sm_6, lm_7, sm_7, lm_8, sm_8, lm_9, sm_9, lm_10, sm_10, lm_11, sm_11, lm_12, sm_12, lm_13, sm_13, lm_14, sm_14, lm_15, sm_15, lm_16, sm_16, lm_17, sm_17, lm_18, sm_18, lm_19, sm_19, lm_20, sm_20, lm_21, sm_21, rm_0, rm_1, wm_1, rm_2, wm_2, rm_3, rm_4, rm_5, rm_6, rm_7, rm_8, wm_8, rm_9, wm_9, rm_10, wm_10, rm_11, wm_11, rm_12, wm_12, rm_13, wm_13, rm_14, wm_14, rm_15, rm_16, wm_16, rm_17, wm_17, rm_18, rm_19, wm_19, rm_20, rm_21, rm_22, wm_22, rm_23, wm_23, rm_24, rm_25, wm_25, rm_26, wm_26, rm_27, wm_27, rm_28, wm_28, rm_29, wm_29, rm_30, rm_31, wm_31, rm_32, rm_33, rm_34, wm_34, rm_35, rm_36, rm_37, rm_38, wm_38, rm_39, rm_40, rm_41, rm_42, M_whereItIs, hA.2.1.1, if_neg h0, hA.2.2.1, eq, nI_pred, nI_nlt0, if_false, M_heatOf, hhe, i_ne0 hh0, hb2.2, not_true, not_false_iff, if_true]
  · rw [if_neg hb]
    obtain ⟨m1, e1, f1, v1⟩ := M_tg k d x m C A hW hC hA
    obtain ⟨m', e', f', v'⟩ := M_step (k + 4) d x m1 C _ v1
    refine ⟨m', ?_, Fr_trans f1 f', v'⟩
    rw [← e', ← e1]
    have h0 : ¬ 0 < A.2.1 0 := fun h => hb (decide_eq_true (Or.inl h))
    simp (disch := omega) only [e_X4_goes_0, e_X4_goes_7, c_X4_goes, cond_true, cond_false, Option.bind_some, rI_s, rL_s, rR_s, rV_s, cnd_d, cnd_ne, cnd_eq, bI_d0, bI_t0, ite_not, decide_eq_false_iff_not, decide_eq_true_eq, lg_cmp_ge, lg_cmp_le, lg_cmp_gt, lg_cmp_lt, lg_cmp_eq, okb_1, okb_0, okb_b, isO_M, lm_1, sm_1, lm_2, sm_2, lm_3, sm_3, lm_4, sm_4, lm_5, sm_5, lm_6, sm_6, lm_7, sm_7, lm_8, sm_8, lm_9, sm_9, lm_10, sm_10, lm_11, sm_11, lm_12, sm_12, lm_13, sm_13, lm_14, sm_14, lm_15, sm_15, lm_16, sm_16, lm_17, sm_17, lm_18, sm_18, lm_19, sm_19, lm_20, sm_20, lm_21, sm_21, rm_0, rm_1, wm_1, rm_2, wm_2, rm_3, rm_4, rm_5, rm_6, rm_7, rm_8, wm_8, rm_9, wm_9, rm_10, wm_10, rm_11, wm_11, rm_12, wm_12, rm_13, wm_13, rm_14, wm_14, rm_15, rm_16, wm_16, rm_17, wm_17, rm_18, rm_19, wm_19, rm_20, rm_21, rm_22, wm_22, rm_23, wm_23, rm_24, rm_25, wm_25, rm_26, wm_26, rm_27, wm_27, rm_28, wm_28, rm_29, wm_29, rm_30, rm_31, wm_31, rm_32, rm_33, rm_34, wm_34, rm_35, rm_36, rm_37, rm_38, wm_38, rm_39, rm_40, rm_41, rm_42, M_isOnItsWay, hA.2.1.1, h0, if_false, M_whereItIs, hA.2.2.1]
    by_cases hz : A.2.2 0 = 0
    · rw [hz, if_pos (by decide)]
    · obtain ⟨q, eq⟩ : ∃ q, A.2.2 0 = q + 1 := ⟨A.2.2 0 - 1, by omega⟩
      have hhe := (hA.1 q (by omega)).2.1
      have hh0 := (hW.1 q (by omega)).1
      have hn : ¬ 0 < A.1 1 q := fun h => hb (decide_eq_true (Or.inr ⟨hz, by rw [eq]; exact h⟩))
      simp (disch := omega) only [e_X4_goes_7, e_X4_goes_16, c_X4_goes, cond_true, cond_false, Option.bind_some, rI_s, rL_s, rR_s, rV_s, cnd_d, cnd_ne, cnd_eq, bI_d0, bI_t0, ite_not, decide_eq_false_iff_not, decide_eq_true_eq, lg_cmp_ge, lg_cmp_le, lg_cmp_gt, lg_cmp_lt, lg_cmp_eq, okb_1, okb_0, okb_b, isO_M, lm_1, sm_1, lm_2, sm_2, lm_3, sm_3, lm_4, sm_4, lm_5, sm_5, lm_6, sm_6, lm_7, sm_7, lm_8, sm_8, lm_9, sm_9, lm_10, sm_10, lm_11, sm_11, lm_12, sm_12, lm_13, sm_13, lm_14, sm_14, lm_15, sm_15, lm_16, sm_16, lm_17, sm_17, lm_18, sm_18, lm_19, sm_19, lm_20, sm_20, lm_21, sm_21, rm_0, rm_1, wm_1, rm_2, wm_2, rm_3, rm_4, rm_5, rm_6, rm_7, rm_8, wm_8, rm_9, wm_9, rm_10, wm_10, rm_11, wm_11, rm_12, wm_12, rm_13, wm_13, rm_14, wm_14, rm_15, rm_16, wm_16, rm_17, wm_17, rm_18, rm_19, wm_19, rm_20, rm_21, rm_22, wm_22, rm_23, wm_23, rm_24, rm_25, wm_25, rm_26, wm_26, rm_27, wm_27, rm_28, wm_28, rm_29, wm_29, rm_30, rm_31, wm_31, rm_32, rm_33, rm_34, wm_34, rm_35, rm_36, rm_37, rm_38, wm_38, rm_39, rm_40, rm_41, rm_42, eq, nI_pred, nI_nlt0, if_false, M_heatOf, hhe, i_ne0 hh0, hn, not_true, not_false_iff, if_true]
