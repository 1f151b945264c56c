theorem came_v {C : AC} {A : AA} (h6 : C.1 ≤ 6) (hW : WA C A) : cameA C A = -1 ∨ ∃ q, q < 6 ∧ cameA C A = nI q := by
  have hp := (WA_go hW).2.2.1
  unfold cameA comeA
  split
  · exact Or.inl rfl
  next h =>
    show (if 0 < _ then _ else _) = _ ∨ _
    by_cases c : 0 < (goA C A).1 1 ((goA C A).2.2 0 - 1)
    · rw [if_pos c]
      have : (goA C A).2.2 0 ≠ 0 := fun e => h (Or.inr e)
      exact Or.inr ⟨(goA C A).2.2 0 - 1, by omega, rfl⟩
    · rw [if_neg c]; exact Or.inl rfl
def firstA (C : AC) : Nat → AA → Option (AA × Int32)
  | 0, _ => none
  | r + 1, A => if cameA C A = -1 then firstA C r (hourA C A) else some (A, cameA C A)
def firstV (w : Int32) (o : Option (AA × Int32)) : Int32 := match o with
  | none => -2
  | some q => if w = 0 then q.2 else q.1.2.1 1
theorem X_firstL (k : Nat) (d : AH) (m : MS) (C : AC) (w : Int32) : ∀ (r i : Nat) (A : AA) (x : XS), i + r = 60 → WA C A → XC d C x → XA C A x 1 → ∃ x', evR T_X0_first (callR (k + 204)) 32 ([(0, .ref 0), (1, .int w), (2, .int (nI i))], [], P d x m) = some (.inl (some (.int (firstV w (firstA C r A)))), P d x' m) ∧ FX 1 x x'
  | 0, i, A, x, hi, hW, hC, hA => by
    refine ⟨x, ?_, FX_refl 1 x⟩
    rw [e_X0_first_32]
    simp (disch := omega) only [e_X0_first_82, cond_true, cond_false, Option.bind_some, rI_s, rL_s, rR_s, rV_s, cnd_d, cnd_ne, cnd_eq, bI_d0, bI_t0, ite_not, decide_eq_false_iff_not, decide_eq_true_eq, lg_cmp_ge, lg_cmp_le, lg_cmp_gt, lg_cmp_lt, lg_cmp_eq, okb_1, okb_0, okb_b, eq_self, if_true, if_false, Bool.true_eq_false, Bool.false_eq_true, li_2, li_3, li_4, li_5, li_6, li_7, li_8, li_9, li_10, li_11, li_12, li_13, li_14, li_15, li_16, li_18, li_20, li_22, li_24, li_25, li_26, li_28, li_32, li_38, li_40, li_43, li_44, li_45, li_46, li_47, li_48, li_49, li_50, li_54, li_56, li_59, li_60, li_61, li_64, li_91, li_93, li_99, li_100, li_111, li_112, li_117, li_122, li_123, li_131, li_132, li_200, li_255, li_256, li_400, li_560, li_9999, li_10000, li_99999, li_65536, pk_mul, nI_add, nI_1, neg_lt0, neg_le0, nI_nn, nI_nlt0, show i = 60 by omega, le_rT]
    rfl
  | r + 1, i, A, x, hi, hW, hC, hA => by
    obtain ⟨x1, e1, f1, c1, v1⟩ := X_hour k d x m 1 (by omega) C A hW hC hA
    have e1' : callR (k + 204) n_X0_goesOn [.ref 0, .ref 12] (P d x m) = _ := e1
    unfold firstA
    by_cases c : cameA C A = -1
    · obtain ⟨x2, e2, f2⟩ := X_firstL k d m C w r (i + 1) (hourA C A) x1 (by omega) (WA_hour hW) (XC_fr hC f1) v1
      refine ⟨x2, ?_, FX_trans f1 f2⟩
      rw [if_pos c, ← e2, e_X0_first_32]
      simp (disch := omega) only [e_X0_first_38, e_X0_first_76, cond_true, cond_false, Option.bind_some, rI_s, rL_s, rR_s, rV_s, cnd_d, cnd_ne, cnd_eq, bI_d0, bI_t0, ite_not, decide_eq_false_iff_not, decide_eq_true_eq, lg_cmp_ge, lg_cmp_le, lg_cmp_gt, lg_cmp_lt, lg_cmp_eq, okb_1, okb_0, okb_b, eq_self, if_true, if_false, Bool.true_eq_false, Bool.false_eq_true, li_2, li_3, li_4, li_5, li_6, li_7, li_8, li_9, li_10, li_11, li_12, li_13, li_14, li_15, li_16, li_18, li_20, li_22, li_24, li_25, li_26, li_28, li_32, li_38, li_40, li_43, li_44, li_45, li_46, li_47, li_48, li_49, li_50, li_54, li_56, li_59, li_60, li_61, li_64, li_91, li_93, li_99, li_100, li_111, li_112, li_117, li_122, li_123, li_131, li_132, li_200, li_255, li_256, li_400, li_560, li_9999, li_10000, li_99999, li_65536, pk_mul, nI_add, nI_1, neg_lt0, neg_le0, nI_nn, nI_nlt0, nI_leP, if_neg (show ¬ 60 ≤ i by omega), rx_2, e1', rx_18, c1, c]
    · refine ⟨x1, ?_, f1⟩
      have r9 : rdI (P d x1 m) 12 2 9 = some (A.2.1 1 + 1) := by
        have := rp_9 d x1 m 1 (by omega)
        rw [v1.1.2.2.1.2.1, hour_1] at this
        exact this
      rw [if_neg c, e_X0_first_32]
      simp (disch := omega) only [e_X0_first_38, e_X0_first_55, e_X0_first_59, e_X0_first_66, e_X0_first_75, cond_true, cond_false, Option.bind_some, rI_s, rL_s, rR_s, rV_s, cnd_d, cnd_ne, cnd_eq, bI_d0, bI_t0, ite_not, decide_eq_false_iff_not, decide_eq_true_eq, lg_cmp_ge, lg_cmp_le, lg_cmp_gt, lg_cmp_lt, lg_cmp_eq, okb_1, okb_0, okb_b, eq_self, if_true, if_false, Bool.true_eq_false, Bool.false_eq_true, li_2, li_3, li_4, li_5, li_6, li_7, li_8, li_9, li_10, li_11, li_12, li_13, li_14, li_15, li_16, li_18, li_20, li_22, li_24, li_25, li_26, li_28, li_32, li_38, li_40, li_43, li_44, li_45, li_46, li_47, li_48, li_49, li_50, li_54, li_56, li_59, li_60, li_61, li_64, li_91, li_93, li_99, li_100, li_111, li_112, li_117, li_122, li_123, li_131, li_132, li_200, li_255, li_256, li_400, li_560, li_9999, li_10000, li_99999, li_65536, pk_mul, nI_add, nI_1, neg_lt0, neg_le0, nI_nn, nI_nlt0, nI_leP, if_neg (show ¬ 60 ≤ i by omega), rx_2, e1', rx_18, c1, c, r9, firstV]
      by_cases cw : w = 0
      · rw [if_pos cw, if_pos cw]
      · rw [if_neg cw, if_neg cw, show A.2.1 1 + 1 - 1 = A.2.1 1 by grind]
theorem M_firstL (k : Nat) (d : AH) (x : XS) (C : AC) (w : Int32) (h6 : C.1 ≤ 6) : ∀ (r i : Nat) (A : AA) (m : MS), i + r = 60 → WA C A → (∃ h, h < 2000 ∧ 0 ≤ A.2.1 1 ∧ A.2.1 1 = nI (h + i)) → VC C m → VA C A m → ∃ m', evR T_X4_first (callR (k + 7)) 28 ([(0, .ref 153), (1, .int w), (2, .int (-2)), (3, .int (nI i))], [], P d x m) = evR T_X4_first (callR (k + 7)) 79 ([(0, .ref 153), (2, .int (firstV w (firstA C r A)))], [], P d x m') ∧ Fr m m'
  | 0, i, A, m, hi, hW, hh, hC, hA => by
    refine ⟨m, ?_, Fr_refl m⟩
    rw [e_X4_first_28]
    simp (disch := omega) only [cond_true, cond_false, Option.bind_some, rI_s, rL_s, rR_s, rV_s, cnd_d, cnd_ne, cnd_eq, bI_d0, bI_t0, ite_not, decide_eq_false_iff_not, decide_eq_true_eq, lg_cmp_ge, lg_cmp_le, lg_cmp_gt, lg_cmp_lt, lg_cmp_eq, okb_1, okb_0, okb_b, eq_self, if_true, if_false, Bool.true_eq_false, Bool.false_eq_true, li_2, li_3, li_4, li_5, li_6, li_7, li_8, li_9, li_10, li_11, li_12, li_13, li_14, li_15, li_16, li_18, li_20, li_22, li_24, li_25, li_26, li_28, li_32, li_38, li_40, li_43, li_44, li_45, li_46, li_47, li_48, li_49, li_50, li_54, li_56, li_59, li_60, li_61, li_64, li_91, li_93, li_99, li_100, li_111, li_112, li_117, li_122, li_123, li_131, li_132, li_200, li_255, li_256, li_400, li_560, li_9999, li_10000, li_99999, li_65536, pk_mul, nI_add, nI_1, neg_lt0, neg_le0, nI_nn, nI_nlt0, show i = 60 by omega, le_rT]
    rfl
  | r + 1, i, A, m, hi, hW, hh, hC, hA => by
    obtain ⟨m1, e1, f1, c1, v1⟩ := M_passes k d x m C A hW hC hA
    obtain ⟨h, hh1, hh0, hh2⟩ := hh
    unfold firstA
    have hl : m.2.1 10 10 = A.2.1 1 := hA.2.1.2.1
    by_cases c : cameA C A = -1
    · obtain ⟨m2, e2, f2⟩ := M_firstL k d x C w h6 r (i + 1) (hourA C A) m1 (by omega) (WA_hour hW) ⟨h, by omega, by rw [hour_1, hh2, nI_1]; exact nI_pos' (by omega), by rw [hour_1, hh2, nI_1, Nat.add_assoc]⟩ (VC_fr hC f1) v1
      refine ⟨m2, ?_, Fr_trans f1 f2⟩
      rw [if_pos c, ← e2, e_X4_first_28]
      simp (disch := omega) only [e_X4_first_34, e_X4_first_38, e_X4_first_73, cond_true, cond_false, Option.bind_some, rI_s, rL_s, rR_s, rV_s, cnd_d, cnd_ne, cnd_eq, bI_d0, bI_t0, ite_not, decide_eq_false_iff_not, decide_eq_true_eq, lg_cmp_ge, lg_cmp_le, lg_cmp_gt, lg_cmp_lt, lg_cmp_eq, okb_1, okb_0, okb_b, eq_self, if_true, if_false, Bool.true_eq_false, Bool.false_eq_true, li_3, li_4, li_5, li_6, li_7, li_8, li_9, li_10, li_11, li_12, li_13, li_14, li_15, li_16, li_18, li_20, li_22, li_24, li_25, li_26, li_28, li_32, li_38, li_40, li_43, li_44, li_45, li_46, li_47, li_48, li_49, li_50, li_54, li_56, li_59, li_60, li_61, li_64, li_91, li_93, li_99, li_100, li_111, li_112, li_117, li_122, li_123, li_131, li_132, li_200, li_255, li_256, li_400, li_560, li_9999, li_10000, li_99999, li_65536, pk_mul, nI_add, nI_1, neg_lt0, neg_le0, nI_nn, nI_nlt0, nI_leP, if_neg (show ¬ 60 ≤ i by omega), show ¬ (0 : Int32) ≤ -2 by decide, rm_21, lm_10, e1, rm_29, c1, c]
    · obtain ⟨q, hq, eq⟩ := (came_v h6 hW).resolve_left c
      refine ⟨m1, ?_, f1⟩
      rw [if_neg c, e_X4_first_28]
      have hn0 : ¬ cameA C A < 0 := by rw [eq]; exact nI_pos (by omega)
      have hfin : ∀ v : Int32, 0 ≤ v → evR T_X4_first (callR (k + 7)) 72 ([(0, .ref 153), (1, .int w), (3, .int (nI i))], [.int v], P d x m1) = evR T_X4_first (callR (k + 7)) 79 ([(0, .ref 153), (2, .int v)], [], P d x m1) := by
        intro v hv
        rw [e_X4_first_72, e_X4_first_73, e_X4_first_28]
        simp (disch := omega) only [e_X4_first_34, cond_true, cond_false, Option.bind_some, rI_s, rL_s, rR_s, rV_s, cnd_d, cnd_ne, cnd_eq, bI_d0, bI_t0, ite_not, decide_eq_false_iff_not, decide_eq_true_eq, lg_cmp_ge, lg_cmp_le, lg_cmp_gt, lg_cmp_lt, lg_cmp_eq, okb_1, okb_0, okb_b, eq_self, if_true, if_false, Bool.true_eq_false, Bool.false_eq_true, li_2, li_3, li_4, li_5, li_6, li_7, li_8, li_9, li_10, li_11, li_12, li_13, li_14, li_15, li_16, li_18, li_20, li_22, li_24, li_25, li_26, li_28, li_32, li_38, li_40, li_43, li_44, li_45, li_46, li_47, li_48, li_49, li_50, li_54, li_56, li_59, li_60, li_61, li_64, li_91, li_93, li_99, li_100, li_111, li_112, li_117, li_122, li_123, li_131, li_132, li_200, li_255, li_256, li_400, li_560, li_9999, li_10000, li_99999, li_65536, pk_mul, nI_add, nI_1, neg_lt0, neg_le0, nI_nn, nI_nlt0, nI_leP, hv]
        split <;> rfl
      simp (disch := omega) only [e_X4_first_34, e_X4_first_38, e_X4_first_59, e_X4_first_63, e_X4_first_70, cond_true, cond_false, Option.bind_some, rI_s, rL_s, rR_s, rV_s, cnd_d, cnd_ne, cnd_eq, bI_d0, bI_t0, ite_not, decide_eq_false_iff_not, decide_eq_true_eq, lg_cmp_ge, lg_cmp_le, lg_cmp_gt, lg_cmp_lt, lg_cmp_eq, okb_1, okb_0, okb_b, eq_self, if_true, if_false, Bool.true_eq_false, Bool.false_eq_true, li_3, li_4, li_5, li_6, li_7, li_8, li_9, li_10, li_11, li_12, li_13, li_14, li_15, li_16, li_18, li_20, li_22, li_24, li_25, li_26, li_28, li_32, li_38, li_40, li_43, li_44, li_45, li_46, li_47, li_48, li_49, li_50, li_54, li_56, li_59, li_60, li_61, li_64, li_91, li_93, li_99, li_100, li_111, li_112, li_117, li_122, li_123, li_131, li_132, li_200, li_255, li_256, li_400, li_560, li_9999, li_10000, li_99999, li_65536, pk_mul, nI_add, nI_1, neg_lt0, neg_le0, nI_nn, nI_nlt0, nI_leP, if_neg (show ¬ 60 ≤ i by omega), show ¬ (0 : Int32) ≤ -2 by decide, rm_21, lm_10, e1, rm_29, c1, hn0, hl, firstV]
      by_cases cw : w = 0
      · rw [if_pos cw, if_pos cw, hfin _ (by rw [eq]; exact nI_pos' (by omega))]
      · rw [if_neg cw, if_neg cw, hfin _ hh0]
theorem op_first (w : Int32) : AskOK n_X0_first n_X4_first [.int w] := by
  intro Z d x m hR k
  obtain ⟨C, A, n, u, a, t, nr, F, fo, hP, hS⟩ := Rel_to hR
  obtain ⟨hZ, hV, hN, hPR, hT, hRR, hF, hD, hBr, hI⟩ := id hP
  have hvp := (hV.2.1 d (Ext_refl Z d)).1
  have h6 := hV.1.1.2
  have hfl := flag_eq hV
  have xv := X_isValley (k + 998) d x m C (hvp.1 x m)
  have mv : ∀ x, _ := fun x => M_isValley (k + 998) d x m
  rw [hfl] at mv
  by_cases c1 : 0 < C.2.2.2.1
  · cases c2 : inI 0 1 w with
    | true =>
      have hC := Rel_XC hV hRR hF hBr.1
      have hCm := Rel_VC hV.1 hRR hF hBr.2.1
      have hAm := Rel_VA (fo := fo) (F := F) hS.1 hBr.2.2
      have hWw := Rel_WA (fo := fo) (F := F) hS.2.2
      obtain ⟨hr, hr9, er⟩ := hS.2.2.2.2.2.2.2
      obtain ⟨x1, e1, f1, v1, -⟩ := X_keep (k + 998) d x m (CW C fo F none) A h6 hS.2.1
      obtain ⟨x2, e2, f2⟩ := X_firstL (k + 795) d m (CW C fo F none) w 60 0 A x1 (by omega) hWw (XC_fr hC f1) (Rel_XA v1)
      obtain ⟨m1, g1, q1⟩ := M_keeps (k + 998) d x2 m
      obtain ⟨hC1, hA1⟩ := M_keepC q1 hCm hAm
      obtain ⟨m2, g2, q2⟩ := M_firstL (k + 992) d x2 (CW C fo F none) w h6 60 0 A m1 (by omega) hWw ⟨hr, by omega, by rw [er]; exact nI_pos' (by omega), er⟩ hC1 hA1
      obtain ⟨m3, g4, q4⟩ := M_laysBack (k + 998) d x2 m2
      refine ⟨firstV w (firstA (CW C fo F none) 60 A), x2, ?_, SimX_trans (FX_Sim f1) (FX_Sim f2), m3, ?_, M_back q1 q2 q4⟩
      · rw [nI_0] at e2
        simp (disch := omega) only [c_X0_first, e_X0_first_0, e_X0_first_7, e_X0_first_19, cond_true, cond_false, Option.bind_some, rI_s, rL_s, rR_s, rV_s, cnd_d, cnd_ne, cnd_eq, bI_d0, bI_t0, ite_not, decide_eq_false_iff_not, decide_eq_true_eq, lg_cmp_ge, lg_cmp_le, lg_cmp_gt, lg_cmp_lt, lg_cmp_eq, okb_1, okb_0, okb_b, eq_self, if_true, if_false, Bool.true_eq_false, Bool.false_eq_true, isO_X, xv, c1, X_in, in_0_1, c2, rx_1, rx_2, e1, e2]
      · rw [nI_0] at g2
        simp (disch := omega) only [c_X4_first, e_X4_first_0, e_X4_first_7, e_X4_first_19, e_X4_first_79, cond_true, cond_false, Option.bind_some, rI_s, rL_s, rR_s, rV_s, cnd_d, cnd_ne, cnd_eq, bI_d0, bI_t0, ite_not, decide_eq_false_iff_not, decide_eq_true_eq, lg_cmp_ge, lg_cmp_le, lg_cmp_gt, lg_cmp_lt, lg_cmp_eq, okb_1, okb_0, okb_b, eq_self, if_true, if_false, Bool.true_eq_false, Bool.false_eq_true, isO_M, mv, c1, M_in, in_0_1, c2, g1, g2, g4]
    | false =>
      refine ask_n (-1) ?_ ?_
      · simp (disch := omega) only [c_X0_first, e_X0_first_0, e_X0_first_7, e_X0_first_17, cond_true, cond_false, Option.bind_some, rI_s, rL_s, rR_s, rV_s, cnd_d, cnd_ne, cnd_eq, bI_d0, bI_t0, ite_not, decide_eq_false_iff_not, decide_eq_true_eq, lg_cmp_ge, lg_cmp_le, lg_cmp_gt, lg_cmp_lt, lg_cmp_eq, okb_1, okb_0, okb_b, eq_self, if_true, if_false, Bool.true_eq_false, Bool.false_eq_true, isO_X, xv, c1, X_in, in_0_1, c2]
      · simp (disch := omega) only [c_X4_first, e_X4_first_0, e_X4_first_7, e_X4_first_17, cond_true, cond_false, Option.bind_some, rI_s, rL_s, rR_s, rV_s, cnd_d, cnd_ne, cnd_eq, bI_d0, bI_t0, ite_not, decide_eq_false_iff_not, decide_eq_true_eq, lg_cmp_ge, lg_cmp_le, lg_cmp_gt, lg_cmp_lt, lg_cmp_eq, okb_1, okb_0, okb_b, eq_self, if_true, if_false, Bool.true_eq_false, Bool.false_eq_true, isO_M, mv, c1, M_in, in_0_1, c2]
  · refine ask_n (-1) ?_ ?_
    · simp (disch := omega) only [c_X0_first, e_X0_first_0, e_X0_first_17, cond_true, cond_false, Option.bind_some, rI_s, rL_s, rR_s, rV_s, cnd_d, cnd_ne, cnd_eq, bI_d0, bI_t0, ite_not, decide_eq_false_iff_not, decide_eq_true_eq, lg_cmp_ge, lg_cmp_le, lg_cmp_gt, lg_cmp_lt, lg_cmp_eq, okb_1, okb_0, okb_b, eq_self, if_true, if_false, Bool.true_eq_false, Bool.false_eq_true, isO_X, xv, c1]
    · simp (disch := omega) only [c_X4_first, e_X4_first_0, e_X4_first_17, cond_true, cond_false, Option.bind_some, rI_s, rL_s, rR_s, rV_s, cnd_d, cnd_ne, cnd_eq, bI_d0, bI_t0, ite_not, decide_eq_false_iff_not, decide_eq_true_eq, lg_cmp_ge, lg_cmp_le, lg_cmp_gt, lg_cmp_lt, lg_cmp_eq, okb_1, okb_0, okb_b, eq_self, if_true, if_false, Bool.true_eq_false, Bool.false_eq_true, isO_M, mv, c1]
