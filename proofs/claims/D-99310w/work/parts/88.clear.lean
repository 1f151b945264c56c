/-! clear -/
def clA (A : AA) (i : Nat) : AA := setA (setA A 0 i 0) 1 i 0
def clV (C : AC) (A : AA) (n i : Nat) : Int32 := A.1 0 i + sumI ((itA C n (clA A i)).1 0) C.1
def clB (C : AC) (A : AA) (n : Nat) : Nat → Int32 × Int32
  | 0 => (-1, sumI ((itA C n A).1 0) C.1)
  | i + 1 => if (clB C A n i).2 < clV C A n i then (nI i, clV C A n i) else clB C A n i
def clR (C : AC) (A : AA) (n : Nat) (w : Int32) : Int32 := if w = 0 then (clB C A n C.1).1 else (clB C A n C.1).2
theorem sum_bd {f : Nat → Int32} : ∀ n, n ≤ 6 → (∀ h, h < n → 0 ≤ f h ∧ f h ≤ 99) → ∃ j, j ≤ 99 * n ∧ sumI f n = nI j
  | 0, _, _ => ⟨0, by omega, rfl⟩
  | n + 1, hn, h => by
    obtain ⟨j, hj, e⟩ := sum_bd n (by omega) fun i hi => h i (by omega)
    obtain ⟨h0, h9⟩ := h n (by omega)
    obtain ⟨q, hq, eq⟩ := nI_of2 (M := 99) (n := 99) rfl (Int32.not_lt.mpr h0) h9
    refine ⟨j + q, by omega, ?_⟩
    show sumI f n + f n = _
    rw [e, eq, nI_add]
theorem X_clear113 (k : Nat) (d : AH) (m : MS) (C : AC) (fo : Option Nat) (F : Nat → (Nat → Int64) → Int64) (n : Nat) (hn : n ≤ 60) (h6 : C.1 ≤ 6) (B : AA) (hW : WA (CW C fo F none) B) (x : XS) (hC : XC d (CW C fo F none) x) (hX : XA (CW C fo F none) B x 1) (w b mo h s : Int32) : ∃ x', evR T_X0_clear (callR (k + 205)) 113 ([(0, .ref 0), (1, .int (nI n)), (2, .int w), (3, .int b), (4, .int mo), (5, .int h), (6, .int s)], [], P d x m) = (if mo < s + sumI ((itA (CW C fo F none) n B).1 0) C.1 then evR T_X0_clear (callR (k + 205)) 151 ([(0, .ref 0), (1, .int (nI n)), (2, .int w), (3, .int h), (4, .int (s + sumI ((itA (CW C fo F none) n B).1 0) C.1)), (5, .int h)], [], P d x' m) else evR T_X0_clear (callR (k + 205)) 151 ([(0, .ref 0), (1, .int (nI n)), (2, .int w), (3, .int b), (4, .int mo), (5, .int h)], [], P d x' m)) ∧ FX 1 x x' := by
  obtain ⟨x1, e1, f1, v1⟩ := X_goesTill k d m (CW C fo F none) n (by omega) B x hW hC hX
  have e3 : callR (k + 205) n_X2_left [.ref 12] (P d x1 m) = _ := X_left0 (k + 204) d x1 m 1 (by omega) C _ h6 v1.1
  refine ⟨x1, ?_, f1⟩
  rw [e_X0_clear_113]
  by_cases c : mo < s + sumI ((itA (CW C fo F none) n B).1 0) C.1
  · rw [if_pos c]
    simp (disch := omega) only [e_X0_clear_136, cond_true, cond_false, Option.bind_some, rI_s, rL_s, rR_s, rV_s, cnd_d, cnd_ne, cnd_eq, bI_d0, bI_t0, ite_not, decide_eq_false_iff_not, decide_eq_true_eq, lg_cmp_ge, lg_cmp_le, lg_cmp_gt, lg_cmp_lt, lg_cmp_eq, okb_1, okb_0, okb_b, eq_self, if_true, if_false, Bool.true_eq_false, Bool.false_eq_true, rx_2, e1, e3, c]
  · rw [if_neg c]
    simp (disch := omega) only [e_X0_clear_133, cond_true, cond_false, Option.bind_some, rI_s, rL_s, rR_s, rV_s, cnd_d, cnd_ne, cnd_eq, bI_d0, bI_t0, ite_not, decide_eq_false_iff_not, decide_eq_true_eq, lg_cmp_ge, lg_cmp_le, lg_cmp_gt, lg_cmp_lt, lg_cmp_eq, okb_1, okb_0, okb_b, eq_self, if_true, if_false, Bool.true_eq_false, Bool.false_eq_true, rx_2, e1, e3, c]
theorem X_clearL (k : Nat) (d : AH) (m : MS) (C : AC) (fo : Option Nat) (F : Nat → (Nat → Int64) → Int64) (n : Nat) (hn : n ≤ 60) (h6 : C.1 ≤ 6) (A : AA) (hW : WA (CW C fo F none) A) (x0 : XS) (hC : XC d (CW C fo F none) x0) (hX : VX C A (x0.2.2.2.1 0)) (w : Int32) : ∀ (r i : Nat) (x : XS), i + r = C.1 → SimX x0 x → ∃ x', evR T_X0_clear (callR (k + 205)) 40 ([(0, .ref 0), (1, .int (nI n)), (2, .int w), (3, .int (clB (CW C fo F none) A n i).1), (4, .int (clB (CW C fo F none) A n i).2), (5, .int (nI i))], [], P d x m) = some (.inl (some (.int (clR (CW C fo F none) A n w))), P d x' m) ∧ SimX x0 x'
  | 0, i, x, hi, hs => by
    have e : i = C.1 := by omega
    subst e
    have hv : VL (P d x m) (x.2.2.2.2.1 0) C := (SimX_XC hs hC).1.1 x m
    refine ⟨x, ?_, hs⟩
    rw [e_X0_clear_40]
    unfold clR
    simp only [CW_1]
    by_cases c : w = 0
    · simp (disch := omega) only [e_X0_clear_157, e_X0_clear_161, e_X0_clear_167, cond_true, cond_false, Option.bind_some, rI_s, rL_s, rR_s, rV_s, cnd_d, cnd_ne, cnd_eq, bI_d0, bI_t0, ite_not, decide_eq_false_iff_not, decide_eq_true_eq, lg_cmp_ge, lg_cmp_le, lg_cmp_gt, lg_cmp_lt, lg_cmp_eq, okb_1, okb_0, okb_b, eq_self, if_true, if_false, Bool.true_eq_false, Bool.false_eq_true, rx_0, X_houses (k + 203) hv, le_rT, c]
    · simp (disch := omega) only [e_X0_clear_157, e_X0_clear_165, e_X0_clear_167, cond_true, cond_false, Option.bind_some, rI_s, rL_s, rR_s, rV_s, cnd_d, cnd_ne, cnd_eq, bI_d0, bI_t0, ite_not, decide_eq_false_iff_not, decide_eq_true_eq, lg_cmp_ge, lg_cmp_le, lg_cmp_gt, lg_cmp_lt, lg_cmp_eq, okb_1, okb_0, okb_b, eq_self, if_true, if_false, Bool.true_eq_false, Bool.false_eq_true, rx_0, X_houses (k + 203) hv, le_rT, c]
  | r + 1, i, x, hi, hs => by
    have hi' : i < C.1 := by omega
    have hv : VL (P d x m) (x.2.2.2.2.1 0) C := (SimX_XC hs hC).1.1 x m
    obtain ⟨x1, e1, f1, v1, -⟩ := X_keep (k + 204) d x m C A h6 (by rw [hs.2.2.1 0 (by omega)]; exact hX)
    have hs1 := SimX_trans hs (FX_Sim f1)
    have hs2 := SimX_trans hs1 (FX_Sim (xS_FX x1 1 (sA (sA (x1.2.2.2.1 1) 0 i 0) 1 i 0)))
    have vc : VX C (clA A i) (sA (sA (x1.2.2.2.1 1) 0 i 0) 1 i 0) := VX_heat (VX_worth v1 i hi' 0) i hi' 0
    have wc : WA (CW C fo F none) (clA A i) := WA_heat (WA_worth hW i 0) i 0 (by decide) (by decide)
    obtain ⟨x3, e3, f3⟩ := X_clear113 k d m C fo F n hn h6 (clA A i) wc (xS x1 1 (sA (sA (x1.2.2.2.1 1) 0 i 0) 1 i 0)) (SimX_XC hs2 hC) (Rel_XA (by rw [xS_s]; exact vc)) w (clB (CW C fo F none) A n i).1 (clB (CW C fo F none) A n i).2 (nI i) (A.1 0 i)
    have hs3 := SimX_trans hs2 (FX_Sim f3)
    obtain ⟨x4, e4, hs4⟩ := X_clearL k d m C fo F n hn h6 A hW x0 hC hX w r (i + 1) x3 (by omega) hs3
    refine ⟨x4, ?_, hs4⟩
    rw [← e4]
    have r0 : ∀ x, rdR (P d x m) 12 2 0 = some 13 := fun x => rp_0 d x m 1 (by omega)
    have r1 : ∀ x, rdR (P d x m) 12 2 1 = some 14 := fun x => rp_1 d x m 1 (by omega)
    have l0 : ldI (P d x1 m) 13 0 (nI i) = some (A.1 0 i) := by rw [← (v1.1 i hi').1]; exact lp_0 d x1 m 1 (by omega) i (by omega)
    have s0 : stI (P d x1 m) 13 0 (nI i) 0 = some (P d (xS x1 1 (sA (x1.2.2.2.1 1) 0 i 0)) m) := sp_0 d x1 m 1 (by omega) i 0 (by omega)
    have s1 : stI (P d (xS x1 1 (sA (x1.2.2.2.1 1) 0 i 0)) m) 14 0 (nI i) 0 = some (P d (xS x1 1 (sA (sA (x1.2.2.2.1 1) 0 i 0) 1 i 0)) m) := by
      have := sp_1 d (xS x1 1 (sA (x1.2.2.2.1 1) 0 i 0)) m 1 (by omega) i 0 (by omega)
      rw [xS_s, xS_S] at this
      exact this
    have hne : ¬ nI i = -1 := fun e => absurd (e ▸ nI_pos' (n := i) (by omega)) (by decide)
    rw [e_X0_clear_40]
    simp (disch := omega) only [e_X0_clear_52, e_X0_clear_73, e_X0_clear_83, e_X0_clear_91, cond_true, cond_false, Option.bind_some, rI_s, rL_s, rR_s, rV_s, cnd_d, cnd_ne, cnd_eq, bI_d0, bI_t0, ite_not, decide_eq_false_iff_not, decide_eq_true_eq, lg_cmp_ge, lg_cmp_le, lg_cmp_gt, lg_cmp_lt, lg_cmp_eq, okb_1, okb_0, okb_b, eq_self, if_true, if_false, Bool.true_eq_false, Bool.false_eq_true, rx_0, rx_1, rx_2, X_houses (k + 203) hv, nI_leP, if_neg (show ¬ C.1 ≤ i by omega), e1, hne, r0, l0, s0, r1, s1]
    rw [e3]
    have hB : clB (CW C fo F none) A n (i + 1) = if (clB (CW C fo F none) A n i).2 < clV (CW C fo F none) A n i then (nI i, clV (CW C fo F none) A n i) else clB (CW C fo F none) A n i := rfl
    have hVe : clV (CW C fo F none) A n i = A.1 0 i + sumI ((itA (CW C fo F none) n (clA A i)).1 0) C.1 := rfl
    rw [hB, hVe]
    by_cases c : (clB (CW C fo F none) A n i).2 < A.1 0 i + sumI ((itA (CW C fo F none) n (clA A i)).1 0) C.1
    · rw [if_pos c, if_pos c, e_X0_clear_151, nI_1]
    · rw [if_neg c, if_neg c, e_X0_clear_151, nI_1]
/-- trials with worth saved -/
def KC (m0 m : MS) : Prop := (∀ k, k < 28 → m.2.1 13 k = m0.2.1 10 (10 + k)) ∧ m.2.1 10 = m0.2.1 10 ∧ (∀ j, j = 1 ∨ j = 2 ∨ j = 4 ∨ j = 5 ∨ j = 12 ∨ j = 18 ∨ j = 19 ∨ j = 20 ∨ j = 21 → m.2.1 j = m0.2.1 j) ∧ ∀ k, k ≠ 19 → k ≠ 26 → k ≠ 28 → k ≠ 29 → k ≠ 34 → m.1 k = m0.1 k
theorem VC_27 {C : AC} {m : MS} {fo F} (h : VC (CW C fo F none) m) (q : Nat) (hq : q < C.1) (v : Int32) : VC (CW C fo F none) (mF (mA (mA m 10 (14 + 4 * q) 0) 10 (14 + 4 * q + 1) 0) 27 v) := by
  have h6 := h.1.2
  have hh : q < (CW C fo F none).1 := hq
  have f : Fr m (mA (mA m 10 (14 + 4 * q) 0) 10 (14 + 4 * q + 1) 0) := Fr_trans (mA_Fr _ _ _ (by omega)) (mA_Fr _ _ _ (by omega))
  obtain ⟨h1, h2, h3, h4, h5, h6, h7⟩ := VC_fr h f
  refine ⟨h1, h2, h3, h4, ?_, ?_, h7⟩
  · cases fo with
    | none => show (mF _ 27 v).1 22 < 0; rw [mF_n _ _ _ _ (by omega)]; exact h5
    | some r =>
      obtain ⟨r', hr, a, b⟩ := h5
      exact ⟨r', hr, by rw [mF_n _ _ _ _ (by omega)]; exact a, RuM_fr b fun j _ => rfl⟩
  · show (mF _ 27 v).1 25 < 0
    rw [mF_n _ _ _ _ (by omega)]
    exact h6
theorem M_clearL (k : Nat) (d : AH) (x : XS) (C : AC) (fo : Option Nat) (F : Nat → (Nat → Int64) → Int64) (n : Nat) (hn : n ≤ 60) (h6 : C.1 ≤ 6) (A : AA) (hW : WA (CW C fo F none) A) (m0 : MS) (hC : VC (CW C fo F none) m0) (hA : VA (CW C fo F none) A m0) (h27 : m0.1 27 = 0) (w : Int32) : ∀ (r i : Nat) (m : MS), i + r = C.1 → KM m0 m → m.2.1 10 = m0.2.1 10 → ∃ m', evR T_X4_clear (callR (k + 9)) 48 ([(0, .ref 153), (1, .int (nI n)), (2, .int w), (3, .int (clB (CW C fo F none) A n i).1), (4, .int (clB (CW C fo F none) A n i).2), (5, .int (nI i))], [], P d x m) = some (.inl (some (.int (clR (CW C fo F none) A n w))), P d x m') ∧ KM m0 m' ∧ m'.2.1 10 = m0.2.1 10
  | 0, i, m, hi, hk, he => by
    have e : i = C.1 := by omega
    subst e
    have h3 := (KM_VC hk hC).1.1
    refine ⟨m, ?_, hk, he⟩
    rw [e_X4_clear_48]
    unfold clR
    simp only [CW_1]
    by_cases c : w = 0
    · simp (disch := omega) only [e_X4_clear_139, e_X4_clear_143, e_X4_clear_149, cond_true, cond_false, Option.bind_some, rI_s, rL_s, rR_s, rV_s, cnd_d, cnd_ne, cnd_eq, bI_d0, bI_t0, ite_not, decide_eq_false_iff_not, decide_eq_true_eq, lg_cmp_ge, lg_cmp_le, lg_cmp_gt, lg_cmp_lt, lg_cmp_eq, okb_1, okb_0, okb_b, eq_self, if_true, if_false, Bool.true_eq_false, Bool.false_eq_true, li_3, rm_21, lm_10, show m.2.1 10 3 = nI C.1 from h3, le_rT, c]
    · simp (disch := omega) only [e_X4_clear_139, e_X4_clear_147, e_X4_clear_149, cond_true, cond_false, Option.bind_some, rI_s, rL_s, rR_s, rV_s, cnd_d, cnd_ne, cnd_eq, bI_d0, bI_t0, ite_not, decide_eq_false_iff_not, decide_eq_true_eq, lg_cmp_ge, lg_cmp_le, lg_cmp_gt, lg_cmp_lt, lg_cmp_eq, okb_1, okb_0, okb_b, eq_self, if_true, if_false, Bool.true_eq_false, Bool.false_eq_true, li_3, rm_21, lm_10, show m.2.1 10 3 = nI C.1 from h3, le_rT, c]
  | r + 1, i, m, hi, hk, he => by
    have hi' : i < C.1 := by omega
    have hC1 := KM_VC hk hC
    have h3 : m.2.1 10 3 = nI C.1 := hC1.1.1
    have hA1 := KM_VA hk he hA
    have h27m : m.1 27 = 0 := by rw [hk.2.2.2 27 (by omega) (by omega) (by omega) (by omega) (by omega)]; exact h27
    have wc : WA (CW C fo F none) (clA A i) := WA_heat (WA_worth hW i 0) i 0 (by decide) (by decide)
    have hA2 : VA (CW C fo F none) (clA A i) (mF (mA (mA m 10 (14 + 4 * i) 0) 10 (14 + 4 * i + 1) 0) 27 (A.1 0 i)) := VA_heat (VA_worth hA1 h27m i hi' h6) i hi' h6 0
    obtain ⟨m2, g2, p10, pj, pq⟩ := M_worthIn k d x (CW C fo F none) n (by omega) (clA A i) m0 (mF (mA (mA m 10 (14 + 4 * i) 0) 10 (14 + 4 * i + 1) 0) 27 (A.1 0 i)) wc (VC_27 hC1 i hi' _) hA2 (fun c hc => by
      show (mA (mA m 10 (14 + 4 * i) 0) 10 (14 + 4 * i + 1) 0).2.1 13 c = _
      rw [show (mA (mA m 10 (14 + 4 * i) 0) 10 (14 + 4 * i + 1) 0).2.1 13 = m.2.1 13 by simp [mA, va_up]]
      exact hk.1 c hc) (fun j hj => by
      show (mA (mA m 10 (14 + 4 * i) 0) 10 (14 + 4 * i + 1) 0).2.1 10 j = _
      rw [mA_n _ _ _ _ (by omega), mA_n _ _ _ _ (by omega), he])
    have k3 : KM m0 (mF m2 27 0) := ⟨fun c hc => by
      show m2.2.1 13 c = _
      rw [pj 13 (by omega), mF_2, show (mA (mA m 10 (14 + 4 * i) 0) 10 (14 + 4 * i + 1) 0).2.1 13 = m.2.1 13 by simp [mA, va_up]]
      exact hk.1 c hc, fun j _ => by show m2.2.1 10 j = _; rw [p10], fun j hj => by
      show m2.2.1 j = _
      rw [pj j (by omega), mF_2, show (mA (mA m 10 (14 + 4 * i) 0) 10 (14 + 4 * i + 1) 0).2.1 j = m.2.1 j by
        rw [show (mA (mA m 10 (14 + 4 * i) 0) 10 (14 + 4 * i + 1) 0).2.1 j = (mA m 10 (14 + 4 * i) 0).2.1 j from va_up_ne _ _ (by omega)]
        exact va_up_ne _ _ (by omega)]
      exact hk.2.2.1 j hj, fun q a b c e f => by
      by_cases z : q = 27
      · subst z; rw [mF_s, h27]
      · rw [mF_n _ _ _ _ z, pq q a b c e, mF_n _ _ _ _ z, mA_1, mA_1]; exact hk.2.2.2 q a b c e f⟩
    have e3 : (mF m2 27 0).2.1 10 = m0.2.1 10 := p10
    obtain ⟨m4, e4, k4, he4⟩ := M_clearL k d x C fo F n hn h6 A hW m0 hC hA h27 w r (i + 1) (mF m2 27 0) (by omega) k3 e3
    refine ⟨m4, ?_, k4, he4⟩
    have w0 : callR (k + 9) n_X4_worthOf [.ref 153, .int (nI i)] (P d x m) = some (.inl (some (.int (A.1 0 i))), P d x m) := by rw [M_worthOf (k + 8) d x m i (by omega), (hA1.1 i hi').1]
    rw [← e4, e_X4_clear_48]
    have hB : clB (CW C fo F none) A n (i + 1) = if (clB (CW C fo F none) A n i).2 < clV (CW C fo F none) A n i then (nI i, clV (CW C fo F none) A n i) else clB (CW C fo F none) A n i := rfl
    have hVe : clV (CW C fo F none) A n i = A.1 0 i + sumI ((itA (CW C fo F none) n (clA A i)).1 0) C.1 := rfl
    have g2' : callR (k + 9) n_X4_worthIn [.ref 153, .int (nI n)] (P d x (mF (mA (mA m 10 (14 + 4 * i) 0) 10 (14 + 4 * i + 1) 0) 27 (A.1 0 i))) = some (.inl (some (.int (sumI ((itA (CW C fo F none) n (clA A i)).1 0) C.1))), P d x m2) := g2
    rw [hB, hVe]
    by_cases c : (clB (CW C fo F none) A n i).2 < A.1 0 i + sumI ((itA (CW C fo F none) n (clA A i)).1 0) C.1
    · rw [if_pos c]
      simp (disch := omega) only [e_X4_clear_59, e_X4_clear_126, e_X4_clear_133, cond_true, cond_false, Option.bind_some, rI_s, rL_s, rR_s, rV_s, cnd_d, cnd_ne, cnd_eq, bI_d0, bI_t0, ite_not, decide_eq_false_iff_not, decide_eq_true_eq, lg_cmp_ge, lg_cmp_le, lg_cmp_gt, lg_cmp_lt, lg_cmp_eq, okb_1, okb_0, okb_b, eq_self, if_true, if_false, Bool.true_eq_false, Bool.false_eq_true, li_3, li_4, li_14, pk_mul, nI_add, nI_1, rm_21, lm_10, sm_10, wm_27, h3, nI_leP, if_neg (show ¬ C.1 ≤ i by omega), w0, g2', c]
    · rw [if_neg c]
      simp (disch := omega) only [e_X4_clear_59, e_X4_clear_123, e_X4_clear_133, cond_true, cond_false, Option.bind_some, rI_s, rL_s, rR_s, rV_s, cnd_d, cnd_ne, cnd_eq, bI_d0, bI_t0, ite_not, decide_eq_false_iff_not, decide_eq_true_eq, lg_cmp_ge, lg_cmp_le, lg_cmp_gt, lg_cmp_lt, lg_cmp_eq, okb_1, okb_0, okb_b, eq_self, if_true, if_false, Bool.true_eq_false, Bool.false_eq_true, li_3, li_4, li_14, pk_mul, nI_add, nI_1, rm_21, lm_10, sm_10, wm_27, h3, nI_leP, if_neg (show ¬ C.1 ≤ i by omega), w0, g2', c]
theorem op_clear (v w : Int32) : AskOK n_X0_clear n_X4_clear [.int v, .int w] := by
  intro Z d x m hR k
  obtain ⟨C, A, n, u, a, t, nr, F, fo, hP, hS⟩ := Rel_to hR
  obtain ⟨hZ, hV, hN, hPR, hT, hRR, hF, hD, hBr, hI⟩ := id hP
  have hvp := (hV.2.1 d (Ext_refl Z d)).1
  have h6 := hV.1.1.2
  have hfl := flag_eq hV
  have xv := X_isValley (k + 998) d x m C (hvp.1 x m)
  have mv : ∀ x, _ := fun x => M_isValley (k + 998) d x m
  rw [hfl] at mv
  by_cases c1 : 0 < C.2.2.2.1
  · cases c2 : inI 1 60 v with
    | true =>
      cases c3 : inI 0 1 w with
      | true =>
        obtain ⟨j, hj1, hj, rfl⟩ := inI_1 (n := 60) (by omega) c2
        have hC := Rel_XC hV hRR hF hBr.1
        have hCm := Rel_VC hV.1 hRR hF hBr.2.1
        have hAm := Rel_VA (fo := fo) (F := F) hS.1 hBr.2.2
        have hWw := Rel_WA (fo := fo) (F := F) hS.2.2
        obtain ⟨x1, e1, f1, v1, -⟩ := X_keep (k + 998) d x m C A h6 hS.2.1
        obtain ⟨x2, e2, f2⟩ := X_clear113 (k + 794) d m C fo F j hj h6 A hWw x1 (SimX_XC (FX_Sim f1) hC) (Rel_XA v1) w (-1) (-1) (-1) 0
        have s2 := SimX_trans (FX_Sim f1) (FX_Sim f2)
        obtain ⟨x3, e3, s3⟩ := X_clearL (k + 794) d m C fo F j hj h6 A hWw x hC hS.2.1 w C.1 0 x2 (by omega) s2
        obtain ⟨m1, g1, q1⟩ := M_keeps (k + 998) d x3 m
        obtain ⟨km, ke⟩ := KM_keep q1
        obtain ⟨m2, g2, p10, pj, pq⟩ := M_worthIn (k + 990) d x3 (CW C fo F none) j (by omega) A m m1 hWw (KM_VC km hCm) (KM_VA km ke hAm) km.1 (fun i _ => by rw [ke])
        obtain ⟨m3, g3, k3, he3⟩ := M_clearL (k + 990) d x3 C fo F j hj h6 A hWw m hCm hAm hBr.2.2 w C.1 0 m2 (by omega) (KM_wi km p10 pj pq) p10
        refine ⟨clR (CW C fo F none) A j w, x3, ?_, s3, m3, ?_, KM_sim k3 he3⟩
        · obtain ⟨z, hz, ez⟩ := sum_bd C.1 h6 fun h hh => (it_w j hWw hS.2.2.2.2.2.2.1 h hh).1
          have hlt : (-1 : Int32) < 0 + sumI ((itA (CW C fo F none) j A).1 0) C.1 := by rw [ez, Int32.zero_add]; exact Int32.lt_of_lt_of_le (by decide) (nI_pos' (by omega))
          rw [if_pos hlt, Int32.zero_add] at e2
          have e2' : evR T_X0_clear (callR (k + 999)) 113 ([(0, .ref 0), (1, .int (nI j)), (2, .int w), (3, .int (-1)), (4, .int (-1)), (5, .int (-1)), (6, .int 0)], [], P d x1 m) = evR T_X0_clear (callR (k + 999)) 151 ([(0, .ref 0), (1, .int (nI j)), (2, .int w), (3, .int (-1)), (4, .int (sumI ((itA (CW C fo F none) j A).1 0) C.1)), (5, .int (-1))], [], P d x2 m) := e2
          have e3' : evR T_X0_clear (callR (k + 999)) 40 ([(0, .ref 0), (1, .int (nI j)), (2, .int w), (3, .int (-1)), (4, .int (sumI ((itA (CW C fo F none) j A).1 0) C.1)), (5, .int 0)], [], P d x2 m) = some (.inl (some (.int (clR (CW C fo F none) A j w))), P d x3 m) := e3
          have hnl : ¬ nI C.1 ≤ -1 := Int32.not_le.mpr (Int32.lt_of_lt_of_le (by decide) (nI_pos' (n := C.1) (by omega)))
          simp (disch := omega) only [c_X0_clear, e_X0_clear_0, e_X0_clear_7, e_X0_clear_19, e_X0_clear_32, cond_true, cond_false, Option.bind_some, rI_s, rL_s, rR_s, rV_s, cnd_d, cnd_ne, cnd_eq, bI_d0, bI_t0, ite_not, decide_eq_false_iff_not, decide_eq_true_eq, lg_cmp_ge, lg_cmp_le, lg_cmp_gt, lg_cmp_lt, lg_cmp_eq, okb_1, okb_0, okb_b, eq_self, if_true, if_false, Bool.true_eq_false, Bool.false_eq_true, isO_X, xv, c1, X_in, in_1_60, c2, in_0_1, c3]
          rw [e_X0_clear_40]
          simp (disch := omega) only [e_X0_clear_52, e_X0_clear_69, e_X0_clear_83, e_X0_clear_151, cond_true, cond_false, Option.bind_some, rI_s, rL_s, rR_s, rV_s, cnd_d, cnd_ne, cnd_eq, bI_d0, bI_t0, ite_not, decide_eq_false_iff_not, decide_eq_true_eq, lg_cmp_ge, lg_cmp_le, lg_cmp_gt, lg_cmp_lt, lg_cmp_eq, okb_1, okb_0, okb_b, eq_self, if_true, if_false, Bool.true_eq_false, Bool.false_eq_true, rx_0, rx_1, rx_2, X_houses (k + 997) (hvp.1 x m), hnl, e1, e2', show (-1 : Int32) + 1 = 0 by decide, e3']
        · rw [nI_0] at g3
          have g3' : evR T_X4_clear (callR (k + 999)) 48 ([(0, .ref 153), (1, .int (nI j)), (2, .int w), (3, .int (-1)), (4, .int (sumI ((itA (CW C fo F none) j A).1 0) C.1)), (5, .int 0)], [], P d x3 m2) = some (.inl (some (.int (clR (CW C fo F none) A j w))), P d x3 m3) := g3
          have g2' : callR (k + 999) n_X4_worthIn [.ref 153, .int (nI j)] (P d x3 m1) = some (.inl (some (.int (sumI ((itA (CW C fo F none) j A).1 0) C.1))), P d x3 m2) := g2
          simp (disch := omega) only [c_X4_clear, e_X4_clear_0, e_X4_clear_7, e_X4_clear_19, e_X4_clear_32, cond_true, cond_false, Option.bind_some, rI_s, rL_s, rR_s, rV_s, cnd_d, cnd_ne, cnd_eq, bI_d0, bI_t0, ite_not, decide_eq_false_iff_not, decide_eq_true_eq, lg_cmp_ge, lg_cmp_le, lg_cmp_gt, lg_cmp_lt, lg_cmp_eq, okb_1, okb_0, okb_b, eq_self, if_true, if_false, Bool.true_eq_false, Bool.false_eq_true, isO_M, mv, c1, M_in, in_1_60, c2, in_0_1, c3, g1, g2', g3']
      | false =>
        refine ask_n (-2) ?_ ?_
        · simp (disch := omega) only [c_X0_clear, e_X0_clear_0, e_X0_clear_7, e_X0_clear_19, e_X0_clear_29, cond_true, cond_false, Option.bind_some, rI_s, rL_s, rR_s, rV_s, cnd_d, cnd_ne, cnd_eq, bI_d0, bI_t0, ite_not, decide_eq_false_iff_not, decide_eq_true_eq, lg_cmp_ge, lg_cmp_le, lg_cmp_gt, lg_cmp_lt, lg_cmp_eq, okb_1, okb_0, okb_b, eq_self, if_true, if_false, Bool.true_eq_false, Bool.false_eq_true, isO_X, xv, c1, X_in, in_1_60, c2, in_0_1, c3]
        · simp (disch := omega) only [c_X4_clear, e_X4_clear_0, e_X4_clear_7, e_X4_clear_19, e_X4_clear_29, cond_true, cond_false, Option.bind_some, rI_s, rL_s, rR_s, rV_s, cnd_d, cnd_ne, cnd_eq, bI_d0, bI_t0, ite_not, decide_eq_false_iff_not, decide_eq_true_eq, lg_cmp_ge, lg_cmp_le, lg_cmp_gt, lg_cmp_lt, lg_cmp_eq, okb_1, okb_0, okb_b, eq_self, if_true, if_false, Bool.true_eq_false, Bool.false_eq_true, isO_M, mv, c1, M_in, in_1_60, c2, in_0_1, c3]
    | false =>
      refine ask_n (-2) ?_ ?_
      · simp (disch := omega) only [c_X0_clear, e_X0_clear_0, e_X0_clear_7, e_X0_clear_29, cond_true, cond_false, Option.bind_some, rI_s, rL_s, rR_s, rV_s, cnd_d, cnd_ne, cnd_eq, bI_d0, bI_t0, ite_not, decide_eq_false_iff_not, decide_eq_true_eq, lg_cmp_ge, lg_cmp_le, lg_cmp_gt, lg_cmp_lt, lg_cmp_eq, okb_1, okb_0, okb_b, eq_self, if_true, if_false, Bool.true_eq_false, Bool.false_eq_true, isO_X, xv, c1, X_in, in_1_60, c2]
      · simp (disch := omega) only [c_X4_clear, e_X4_clear_0, e_X4_clear_7, e_X4_clear_29, cond_true, cond_false, Option.bind_some, rI_s, rL_s, rR_s, rV_s, cnd_d, cnd_ne, cnd_eq, bI_d0, bI_t0, ite_not, decide_eq_false_iff_not, decide_eq_true_eq, lg_cmp_ge, lg_cmp_le, lg_cmp_gt, lg_cmp_lt, lg_cmp_eq, okb_1, okb_0, okb_b, eq_self, if_true, if_false, Bool.true_eq_false, Bool.false_eq_true, isO_M, mv, c1, M_in, in_1_60, c2]
  · refine ask_n (-2) ?_ ?_
    · simp (disch := omega) only [c_X0_clear, e_X0_clear_0, e_X0_clear_29, cond_true, cond_false, Option.bind_some, rI_s, rL_s, rR_s, rV_s, cnd_d, cnd_ne, cnd_eq, bI_d0, bI_t0, ite_not, decide_eq_false_iff_not, decide_eq_true_eq, lg_cmp_ge, lg_cmp_le, lg_cmp_gt, lg_cmp_lt, lg_cmp_eq, okb_1, okb_0, okb_b, eq_self, if_true, if_false, Bool.true_eq_false, Bool.false_eq_true, isO_X, xv, c1]
    · simp (disch := omega) only [c_X4_clear, e_X4_clear_0, e_X4_clear_29, cond_true, cond_false, Option.bind_some, rI_s, rL_s, rR_s, rV_s, cnd_d, cnd_ne, cnd_eq, bI_d0, bI_t0, ite_not, decide_eq_false_iff_not, decide_eq_true_eq, lg_cmp_ge, lg_cmp_le, lg_cmp_gt, lg_cmp_lt, lg_cmp_eq, okb_1, okb_0, okb_b, eq_self, if_true, if_false, Bool.true_eq_false, Bool.false_eq_true, isO_M, mv, c1]
