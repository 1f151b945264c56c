/-! x: the brigade, an hour -/
theorem X_wants (k : Nat) (d : AH) (x : XS) (m : MS) (t : Nat) (ht : t < 22) (C : AC) (A : AA) (hp : A.2.2 0 ≤ C.1) (hC : XC d C x) (hA : XA C A x t) (h : Nat) (hh : h < C.1) (hr : rA C A h = true) : ∃ x', callR (k + 201) n_X0_wants [.ref 0, .ref (sAd t), .int (nI h)] (P d x m) = some (.inl (some (.long (wA C A h))), P d x' m) ∧ WX x x' := by
  have h6 := hC.2.1
  obtain ⟨b0, b1, b2, b3⟩ := hA.1.1 h hh
  have hw := hC.2.2.1
  unfold wA
  split at hw
  next ew =>
    refine ⟨x, ?_, rfl, rfl, rfl⟩
    rw [ew]
    simp (disch := omega) only [e_X0_wants_0, e_X0_wants_8, e_X0_wants_17, e_X0_wants_27, e_X0_wants_28, e_X0_wants_29, c_X0_wants, cond_true, cond_false, Option.bind_some, rI_s, rL_s, rR_s, rV_s, cnd_d, cnd_ne, cnd_eq, bI_d0, bI_t0, ite_not, decide_eq_false_iff_not, decide_eq_true_eq, lg_cmp_ge, lg_cmp_le, lg_cmp_gt, lg_cmp_lt, lg_cmp_eq, okb_1, okb_0, okb_b, li_2, li_3, li_4, li_5, li_6, li_7, li_8, li_9, li_10, li_11, li_12, li_13, li_14, li_15, li_16, li_18, li_20, li_22, li_24, li_25, li_26, li_28, li_32, li_38, li_40, li_43, li_44, li_45, li_46, li_47, li_48, li_49, li_50, li_54, li_56, li_59, li_60, li_61, li_64, li_91, li_93, li_99, li_100, li_111, li_112, li_117, li_122, li_123, li_131, li_132, li_200, li_255, li_256, li_400, li_560, li_9999, li_10000, li_99999, li_65536, pk_mul, nI_add, nI_1, neg_lt0, neg_le0, nI_nn, nI_nlt0, P_isO, rp_0, rp_1, rp_2, rp_3, rp_4, rp_5, rp_6, rp_7, rp_8, rp_9, lp_0, lp_1, lp_2, lp_3, lp_4, sp_0, sp_1, sp_2, sp_3, sp_4, wp_5, wp_6, wp_7, wp_8, wp_9, isO_X, rx_4, hw, if_true, b1, b2]
    by_cases hq : 0 < A.1 1 h
    · rw [if_neg (Int32.not_le.mpr hq), if_pos hq]
    · rw [if_pos (Int32.not_lt.mp hq), if_neg hq]
  next F ew =>
    obtain ⟨r, hr6, h4, hF⟩ := hw
    obtain ⟨x', e1, w1, w2⟩ := X_asks (k + 198) d x m t ht C A hp hC hA h hh hr
    obtain ⟨o, e2, e3, e4⟩ := hF k x' m (by rw [w1.2.2]) (by rw [w1.1]) (by rw [w1.2.2])
    refine ⟨x', ?_, w1⟩
    rw [ew]
    have hn : ¬ nI r = -1 := by
      intro e
      have := nI_pos' (n := r) (by omega)
      rw [e] at this
      exact absurd this (by decide)
    have hok : okC (P d x' m) o 7 = some () := by unfold okC; rw [e3]; rfl
    rw [w2] at e4
    simp (disch := omega) only [e_X0_wants_0, e_X0_wants_8, e_X0_wants_17, e_X0_wants_27, e_X0_wants_28, e_X0_wants_29, c_X0_wants, cond_true, cond_false, Option.bind_some, rI_s, rL_s, rR_s, rV_s, cnd_d, cnd_ne, cnd_eq, bI_d0, bI_t0, ite_not, decide_eq_false_iff_not, decide_eq_true_eq, lg_cmp_ge, lg_cmp_le, lg_cmp_gt, lg_cmp_lt, lg_cmp_eq, okb_1, okb_0, okb_b, li_2, li_3, li_4, li_5, li_6, li_7, li_8, li_9, li_10, li_11, li_12, li_13, li_14, li_15, li_16, li_18, li_20, li_22, li_24, li_25, li_26, li_28, li_32, li_38, li_40, li_43, li_44, li_45, li_46, li_47, li_48, li_49, li_50, li_54, li_56, li_59, li_60, li_61, li_64, li_91, li_93, li_99, li_100, li_111, li_112, li_117, li_122, li_123, li_131, li_132, li_200, li_255, li_256, li_400, li_560, li_9999, li_10000, li_99999, li_65536, pk_mul, nI_add, nI_1, neg_lt0, neg_le0, nI_nn, nI_nlt0, P_isO, rp_0, rp_1, rp_2, rp_3, rp_4, rp_5, rp_6, rp_7, rp_8, rp_9, lp_0, lp_1, lp_2, lp_3, lp_4, sp_0, sp_1, sp_2, sp_3, sp_4, wp_5, wp_6, wp_7, wp_8, wp_9, isO_X, rx_4, rx_3, rx_12, h4, hn, if_false, e1, show x'.1 = x.1 from w1.1, e2, hok, e4]
theorem X_choiceL (k : Nat) (d : AH) (x : XS) (m : MS) (t : Nat) (ht : t < 22) (C : AC) (A : AA) (hp : A.2.2 0 ≤ C.1) (hC : XC d C x) (hA : XA C A x t) : ∀ (r i : Nat) (x1 : XS), i + r = C.1 → WX x x1 → ∃ x', evR T_X0_choiceOf (callR (k + 201)) 7 ([(0, .ref 0), (1, .ref (sAd t)), (2, .int (oI (chF (rA C A) (wA C A) i).1)), (3, .long (chF (rA C A) (wA C A) i).2), (5, .int (nI i))], [], P d x1 m) = some (.inl (some (.int (oI (chF (rA C A) (wA C A) C.1).1))), P d x' m) ∧ WX x x'
  | 0, i, x1, hi, s1 => by
    have h6 := hC.2.1
    have hv : VL (P d x1 m) (x1.2.2.2.2.1 0) C := by rw [s1.2.2]; exact hC.1.1 x1 m
    refine ⟨x1, ?_, s1⟩
    rw [e_X0_choiceOf_7]
    simp (disch := omega) only [e_X0_choiceOf_0, e_X0_choiceOf_19, e_X0_choiceOf_29, e_X0_choiceOf_32, e_X0_choiceOf_48, e_X0_choiceOf_51, e_X0_choiceOf_57, e_X0_choiceOf_63, c_X0_choiceOf, cond_true, cond_false, Option.bind_some, rI_s, rL_s, rR_s, rV_s, cnd_d, cnd_ne, cnd_eq, bI_d0, bI_t0, ite_not, decide_eq_false_iff_not, decide_eq_true_eq, lg_cmp_ge, lg_cmp_le, lg_cmp_gt, lg_cmp_lt, lg_cmp_eq, okb_1, okb_0, okb_b, li_2, li_3, li_4, li_5, li_6, li_7, li_8, li_9, li_10, li_11, li_12, li_13, li_14, li_15, li_16, li_18, li_20, li_22, li_24, li_25, li_26, li_28, li_32, li_38, li_40, li_43, li_44, li_45, li_46, li_47, li_48, li_49, li_50, li_54, li_56, li_59, li_60, li_61, li_64, li_91, li_93, li_99, li_100, li_111, li_112, li_117, li_122, li_123, li_131, li_132, li_200, li_255, li_256, li_400, li_560, li_9999, li_10000, li_99999, li_65536, pk_mul, nI_add, nI_1, neg_lt0, neg_le0, nI_nn, nI_nlt0, rx_0, X_houses (k + 199) hv, show i = C.1 by omega, le_rT, if_true]
  | r + 1, i, x1, hi, s1 => by
    have h6 := hC.2.1
    have hv : VL (P d x1 m) (x1.2.2.2.2.1 0) C := by rw [s1.2.2]; exact hC.1.1 x1 m
    have hC1 : XC d C x1 := XC_fr (t := t) hC (WX_FX s1)
    have hA1 := XA_WX hA s1
    rw [e_X0_choiceOf_7]
    simp (disch := omega) only [e_X0_choiceOf_0, e_X0_choiceOf_19, e_X0_choiceOf_63, c_X0_choiceOf, cond_true, cond_false, Option.bind_some, rI_s, rL_s, rR_s, rV_s, cnd_d, cnd_ne, cnd_eq, bI_d0, bI_t0, ite_not, decide_eq_false_iff_not, decide_eq_true_eq, lg_cmp_ge, lg_cmp_le, lg_cmp_gt, lg_cmp_lt, lg_cmp_eq, okb_1, okb_0, okb_b, li_2, li_3, li_4, li_5, li_6, li_7, li_8, li_9, li_10, li_11, li_12, li_13, li_14, li_15, li_16, li_18, li_20, li_22, li_24, li_25, li_26, li_28, li_32, li_38, li_40, li_43, li_44, li_45, li_46, li_47, li_48, li_49, li_50, li_54, li_56, li_59, li_60, li_61, li_64, li_91, li_93, li_99, li_100, li_111, li_112, li_117, li_122, li_123, li_131, li_132, li_200, li_255, li_256, li_400, li_560, li_9999, li_10000, li_99999, li_65536, pk_mul, nI_add, nI_1, neg_lt0, neg_le0, nI_nn, nI_nlt0, rx_0, X_houses (k + 199) hv, nI_leP, if_neg (show ¬ C.1 ≤ i by omega), X_isReached (k + 199) d x1 m t ht C A hp hC1 hA1 i (by omega)]
    by_cases hr : rA C A i = true
    · obtain ⟨x2, e2, s2⟩ := X_wants k d x1 m t ht C A hp hC1 hA1 i (by omega) hr
      rw [if_neg (by rw [hr]; decide), e_X0_choiceOf_32, e2]
      obtain ⟨x', e', s'⟩ := X_choiceL k d x m t ht C A hp hC hA r (i + 1) x2 (by omega) (WX_trans s1 s2)
      refine ⟨x', ?_, s'⟩
      rw [← e']
      simp (disch := omega) only [e_X0_choiceOf_0, e_X0_choiceOf_19, e_X0_choiceOf_29, e_X0_choiceOf_48, e_X0_choiceOf_51, e_X0_choiceOf_57, e_X0_choiceOf_63, c_X0_choiceOf, cond_true, cond_false, Option.bind_some, rI_s, rL_s, rR_s, rV_s, cnd_d, cnd_ne, cnd_eq, bI_d0, bI_t0, ite_not, decide_eq_false_iff_not, decide_eq_true_eq, lg_cmp_ge, lg_cmp_le, lg_cmp_gt, lg_cmp_lt, lg_cmp_eq, okb_1, okb_0, okb_b, li_2, li_3, li_4, li_5, li_6, li_7, li_8, li_9, li_10, li_11, li_12, li_13, li_14, li_15, li_16, li_18, li_20, li_22, li_24, li_25, li_26, li_28, li_32, li_38, li_40, li_43, li_44, li_45, li_46, li_47, li_48, li_49, li_50, li_54, li_56, li_59, li_60, li_61, li_64, li_91, li_93, li_99, li_100, li_111, li_112, li_117, li_122, li_123, li_131, li_132, li_200, li_255, li_256, li_400, li_560, li_9999, li_10000, li_99999, li_65536, pk_mul, nI_add, nI_1, neg_lt0, neg_le0, nI_nn, nI_nlt0]
      rw [chF_s, if_pos hr]
      by_cases hw : (chF (rA C A) (wA C A) i).2 < wA C A i
      · rw [if_pos hw, if_pos hw]
        rfl
      · rw [if_neg hw, if_neg hw]
    · rw [if_pos (by simpa using hr)]
      obtain ⟨x', e', s'⟩ := X_choiceL k d x m t ht C A hp hC hA r (i + 1) x1 (by omega) s1
      refine ⟨x', ?_, s'⟩
      rw [← e']
      simp (disch := omega) only [e_X0_choiceOf_0, e_X0_choiceOf_19, e_X0_choiceOf_29, e_X0_choiceOf_48, e_X0_choiceOf_51, e_X0_choiceOf_57, e_X0_choiceOf_63, c_X0_choiceOf, cond_true, cond_false, Option.bind_some, rI_s, rL_s, rR_s, rV_s, cnd_d, cnd_ne, cnd_eq, bI_d0, bI_t0, ite_not, decide_eq_false_iff_not, decide_eq_true_eq, lg_cmp_ge, lg_cmp_le, lg_cmp_gt, lg_cmp_lt, lg_cmp_eq, okb_1, okb_0, okb_b, li_2, li_3, li_4, li_5, li_6, li_7, li_8, li_9, li_10, li_11, li_12, li_13, li_14, li_15, li_16, li_18, li_20, li_22, li_24, li_25, li_26, li_28, li_32, li_38, li_40, li_43, li_44, li_45, li_46, li_47, li_48, li_49, li_50, li_54, li_56, li_59, li_60, li_61, li_64, li_91, li_93, li_99, li_100, li_111, li_112, li_117, li_122, li_123, li_131, li_132, li_200, li_255, li_256, li_400, li_560, li_9999, li_10000, li_99999, li_65536, pk_mul, nI_add, nI_1, neg_lt0, neg_le0, nI_nn, nI_nlt0]
      rw [show chF (rA C A) (wA C A) (i + 1) = chF (rA C A) (wA C A) i by rw [chF_s, if_neg hr]]
theorem X_choice (k : Nat) (d : AH) (x : XS) (m : MS) (t : Nat) (ht : t < 22) (C : AC) (A : AA) (hp : A.2.2 0 ≤ C.1) (hC : XC d C x) (hA : XA C A x t) : ∃ x', callR (k + 202) n_X0_choiceOf [.ref 0, .ref (sAd t)] (P d x m) = some (.inl (some (.int (oI (chF (rA C A) (wA C A) C.1).1))), P d x' m) ∧ WX x x' := by
  obtain ⟨x', e, s⟩ := X_choiceL k d x m t ht C A hp hC hA C.1 0 x (by omega) ⟨rfl, rfl, rfl⟩
  refine ⟨x', ?_, s⟩
  rw [← e]
  simp (disch := omega) only [e_X0_choiceOf_0, c_X0_choiceOf, cond_true, cond_false, Option.bind_some, rI_s, rL_s, rR_s, rV_s, cnd_d, cnd_ne, cnd_eq, bI_d0, bI_t0, ite_not, decide_eq_false_iff_not, decide_eq_true_eq, lg_cmp_ge, lg_cmp_le, lg_cmp_gt, lg_cmp_lt, lg_cmp_eq, okb_1, okb_0, okb_b, isO_X]
  rfl
/-- where the brigade is sent -/
theorem X_send49 (k : Nat) (d : AH) (x : XS) (m : MS) (t : Nat) (ht : t < 22) (C : AC) (A : AA) (hW : WA C A) (hC : XC d C x) (hA : XA C A x t) (o : Option Nat) (ho : ∀ h, o = some h → h < C.1 ∧ rA C A h = true) : ∃ x', evR T_X0_brigade (callR (k + 2)) 34 ([(0, .ref 0), (1, .ref (sAd t))], [.int (oI o)], P d x m) = evR T_X0_brigade (callR (k + 2)) 49 ([(1, .ref (sAd t))], [], P d x' m) ∧ FX t x x' ∧ XA C (sendA C A o) x' t := by
  have h6 := hC.2.1
  match o, ho with
  | none, _ =>
    refine ⟨x, ?_, FX_refl t x, hA⟩
    simp only [e_X0_brigade_34, cond_true, cond_false, Option.bind_some, rI_s, rL_s, rR_s, rV_s, cnd_d, cnd_ne, cnd_eq, bI_d0, bI_t0, ite_not, decide_eq_false_iff_not, decide_eq_true_eq, lg_cmp_ge, lg_cmp_le, lg_cmp_gt, lg_cmp_lt, lg_cmp_eq, okb_1, okb_0, okb_b, oI, if_true]
  | some h, ho =>
    obtain ⟨hh, hr⟩ := ho h rfl
    obtain ⟨s', e', v', ea⟩ := X_sends k (P d x m) (sAd t) (x.2.2.2.2.1 0) (x.2.2.2.1 t) (P_len d x m t ht) C A (VP_s hC.1 x m t ht) hW.2.2.1 h6 hA.1 h hh hr
    rw [P_g d x m t ht, P_s d x m t ht] at e'
    refine ⟨xS x t s', ?_, xS_FX x t s', ?_⟩
    · have hn : ¬ nI h = -1 := by
        intro e
        have := nI_pos' (n := h) (by omega)
        rw [e] at this
        exact absurd this (by decide)
      simp only [e_X0_brigade_34, e_X0_brigade_40, cond_true, cond_false, Option.bind_some, rI_s, rL_s, rR_s, rV_s, cnd_d, cnd_ne, cnd_eq, bI_d0, bI_t0, ite_not, decide_eq_false_iff_not, decide_eq_true_eq, lg_cmp_ge, lg_cmp_le, lg_cmp_gt, lg_cmp_lt, lg_cmp_eq, okb_1, okb_0, okb_b, oI, hn, if_false, rx_0, e']
    · refine ⟨by rw [xS_s]; exact v', fun hq => ?_⟩
      have := hA.2 hq
      unfold sendA
      by_cases e : h + 1 = A.2.2 0
      · simp only [if_pos e]; exact this
      · simp only [if_neg e]
        rw [xS_1, this, va_up_ne _ _ (by omega)]
theorem chF_r (R : Nat → Bool) (w : Nat → Int64) : ∀ n h, (chF R w n).1 = some h → R h = true
  | 0, _, e => by cases e
  | n + 1, h, e => by
    rw [chF_s] at e
    split at e
    next hr =>
      split at e
      · cases e; exact hr
      · exact chF_r R w n h e
    · exact chF_r R w n h e
theorem nextR_r {R : Nat → Bool} {row : Nat → Nat} : ∀ r i h, (nextR R row r i).1 = some h → R h = true
  | 0, _, _, e => by cases e
  | r + 1, i, h, e => by
    unfold nextR at e
    split at e
    next hr => cases e; exact hr
    · exact nextR_r r (i + 1) h e
theorem tg_r {C : AC} {A : AA} : ∀ h, (tgA C A).1 = some h → rA C A h = true := by
  unfold tgA
  split
  · exact fun h e => chF_r _ _ _ _ e
  · exact fun h e => nextR_r _ _ _ e
theorem X_tg (k : Nat) (d : AH) (x : XS) (m : MS) (t : Nat) (ht : t < 22) (C : AC) (A : AA) (hW : WA C A) (hC : XC d C x) (hA : XA C A x t) : ∃ x', evR T_X0_brigade (callR (k + 202)) 14 ([(0, .ref 0), (1, .ref (sAd t))], [], P d x m) = evR T_X0_brigade (callR (k + 202)) 49 ([(1, .ref (sAd t))], [], P d x' m) ∧ FX t x x' ∧ XA C (sendA C (rowA A (tgA C A).2) (tgA C A).1) x' t := by
  have h6 := hC.2.1
  have htg : ∀ h, (tgA C A).1 = some h → h < C.1 ∧ rA C A h = true := fun h e => ⟨tg_lt hW h e, tg_r h e⟩
  have hrw := hC.2.2.2.1
  have hp := hW.2.2.1
  rw [e_X0_brigade_14]
  unfold tgA at htg ⊢
  cases eq : C.2.2.2.2.2 with
  | none =>
    rw [eq] at hrw htg
    obtain ⟨x1, e1, s1⟩ := X_choice k d x m t ht C A hp hC hA
    obtain ⟨x2, e2, f2, v2⟩ := X_send49 (k + 200) d x1 m t ht C (rowA A (A.2.2 2)) (by
      unfold rowA; rw [va_up_id]; exact hW) (XC_fr (t := t) hC (WX_FX s1)) (by unfold rowA; rw [va_up_id]; exact XA_WX hA s1) _ htg
    refine ⟨x2, ?_, FX_trans (WX_FX s1) f2, v2⟩
    rw [← e2]
    simp (disch := omega) only [e_X0_brigade_29, rx_17, hrw, cond_true, cond_false, Option.bind_some, rI_s, rL_s, rR_s, rV_s, cnd_d, cnd_ne, cnd_eq, bI_d0, bI_t0, ite_not, decide_eq_false_iff_not, decide_eq_true_eq, lg_cmp_ge, lg_cmp_le, lg_cmp_gt, lg_cmp_lt, lg_cmp_eq, okb_1, okb_0, okb_b, if_true, e1]
  | some q =>
    rw [eq] at hrw htg
    have hq := hW.2.2.2.2 q eq
    have h16 : x.1 16 = nI (A.2.2 2) := hA.2 (by rw [eq]; rfl)
    have e1 := X_nextL (k + 199) d m t ht C A hp q eq x hC hA.1 (q.1 - A.2.2 2) (A.2.2 2) (by omega)
    have ex : xF x 16 (nI (A.2.2 2)) = x := by unfold xF; rw [← h16, va_up_id]
    rw [ex] at e1
    have hlt := (nextR_lt (R := rA C A) (row := q.2) (k := C.1) (q.1 - A.2.2 2) (A.2.2 2) fun j hj => hq.2 j (by omega)).2.2
    have hWr : WA C (rowA A (nextR (rA C A) q.2 (q.1 - A.2.2 2) (A.2.2 2)).2) := by
      refine ⟨hW.1, hW.2.1, hW.2.2.1, hW.2.2.2.1, fun q' eq' => ?_⟩
      rw [eq] at eq'
      cases eq'
      refine ⟨?_, hq.2⟩
      unfold rowA
      simp only [va_up_self]
      omega
    obtain ⟨x2, e2, f2, v2⟩ := X_send49 (k + 200) d (xF x 16 (nI (nextR (rA C A) q.2 (q.1 - A.2.2 2) (A.2.2 2)).2)) m t ht C (rowA A (nextR (rA C A) q.2 (q.1 - A.2.2 2) (A.2.2 2)).2) hWr (XC_fr (t := t) hC (xF_FX x t 16 _ (by omega))) ⟨hA.1, fun _ => by rw [xF_s]; unfold rowA; simp only [va_up_self]⟩ _ htg
    refine ⟨x2, ?_, FX_trans (xF_FX x t 16 _ (by omega)) f2, v2⟩
    rw [← e2]
    simp (disch := omega) only [e_X0_brigade_21, rx_17, hrw.2.1, cond_true, cond_false, Option.bind_some, rI_s, rL_s, rR_s, rV_s, cnd_d, cnd_ne, cnd_eq, bI_d0, bI_t0, ite_not, decide_eq_false_iff_not, decide_eq_true_eq, lg_cmp_ge, lg_cmp_le, lg_cmp_gt, lg_cmp_lt, lg_cmp_eq, okb_1, okb_0, okb_b, if_neg (show ¬ (1 : Int32) = 0 by decide), c_X0_nextOf, isO_X, e1]
