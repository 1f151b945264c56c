/-! asks -/
def inI (lo hi v : Int32) : Bool := decide (lo ≤ v ∧ v ≤ hi)
theorem inP (lo hi v : Int32) : (lo.toInt64 ≤ v.toInt64 ∧ v.toInt64 ≤ hi.toInt64) = (inI lo hi v = true) := by
  unfold inI
  rw [l_le, l_le, decide_eq_true_eq]
theorem inI_0 {n : Nat} {v : Int32} (hn : n < 2 ^ 31) (h : inI 0 (nI n) v = true) : ∃ j, j ≤ n ∧ v = nI j := by
  obtain ⟨h1, h2⟩ := of_decide_eq_true h
  obtain ⟨j, hj, rfl⟩ := nI_of (Int32.not_lt.mpr h1)
  exact ⟨j, (nI_leI hj hn).mp h2, rfl⟩
theorem inI_1 {n : Nat} {v : Int32} (hn : n < 2 ^ 31) (h : inI 1 (nI n) v = true) : ∃ j, 1 ≤ j ∧ j ≤ n ∧ v = nI j := by
  obtain ⟨h1, h2⟩ := of_decide_eq_true h
  obtain ⟨j, hj, rfl⟩ := nI_of (Int32.not_lt.mpr (Int32.le_trans (by decide) h1))
  exact ⟨j, (nI_leI (a := 1) (by omega) hj).mp h1, (nI_leI hj hn).mp h2, rfl⟩
theorem in_0_100 (v : Int32) : ((0 : Int64) ≤ v.toInt64 ∧ v.toInt64 ≤ (100 : Int64)) = (inI (0) 100 v = true) := inP (0) 100 v
theorem in_0_2 (v : Int32) : ((0 : Int64) ≤ v.toInt64 ∧ v.toInt64 ≤ (2 : Int64)) = (inI (0) 2 v = true) := inP (0) 2 v
theorem in_1_60 (v : Int32) : ((1 : Int64) ≤ v.toInt64 ∧ v.toInt64 ≤ (60 : Int64)) = (inI (1) 60 v = true) := inP (1) 60 v
theorem in_m1_5 (v : Int32) : ((-1 : Int64) ≤ v.toInt64 ∧ v.toInt64 ≤ (5 : Int64)) = (inI (-1) 5 v = true) := inP (-1) 5 v
theorem in_0_1 (v : Int32) : ((0 : Int64) ≤ v.toInt64 ∧ v.toInt64 ≤ (1 : Int64)) = (inI (0) 1 v = true) := inP (0) 1 v
theorem in_0_60 (v : Int32) : ((0 : Int64) ≤ v.toInt64 ∧ v.toInt64 ≤ (60 : Int64)) = (inI (0) 60 v = true) := inP (0) 60 v
theorem in_0_20 (v : Int32) : ((0 : Int64) ≤ v.toInt64 ∧ v.toInt64 ≤ (20 : Int64)) = (inI (0) 20 v = true) := inP (0) 20 v
theorem in_1_20 (v : Int32) : ((1 : Int64) ≤ v.toInt64 ∧ v.toInt64 ≤ (20 : Int64)) = (inI (1) 20 v = true) := inP (1) 20 v
theorem in_0_9999 (v : Int32) : ((0 : Int64) ≤ v.toInt64 ∧ v.toInt64 ≤ (9999 : Int64)) = (inI (0) 9999 v = true) := inP (0) 9999 v
theorem in_0_3 (v : Int32) : ((0 : Int64) ≤ v.toInt64 ∧ v.toInt64 ≤ (3 : Int64)) = (inI (0) 3 v = true) := inP (0) 3 v
theorem in_1_10 (v : Int32) : ((1 : Int64) ≤ v.toInt64 ∧ v.toInt64 ≤ (10 : Int64)) = (inI (1) 10 v = true) := inP (1) 10 v
theorem VC_e {C : AC} {m m' : MS} (h : VC C m) (e1 : m'.1 = m.1) (e : ∀ j, j = 2 ∨ j = 4 ∨ j = 5 ∨ j = 10 ∨ j = 11 → m'.2.1 j = m.2.1 j) : VC C m' := by
  obtain ⟨h1, h2, h3, h4, h5, h6, h7⟩ := h
  unfold VC
  rw [e1, e 10 (by omega), e 11 (by omega)]
  refine ⟨h1, h2, h3, h4, ?_, h6, h7⟩
  split at h5
  · exact h5
  · obtain ⟨r, hr, h5, h6⟩ := h5
    exact ⟨r, hr, h5, RuM_fr h6 fun j hj => e j (by omega)⟩
theorem VA_e {C : AC} {A : AA} {m m' : MS} (h : VA C A m) (e1 : m'.1 = m.1) (e : m'.2.1 10 = m.2.1 10) : VA C A m' := by
  unfold VA
  rw [e1, e]
  exact h
/-- what a question of m's does with what it keeps -/
theorem M_back {m m1 m2 m3 : MS} (h1 : CpM 13 0 28 (fun k => m.2.1 10 (10 + k)) m m1) (h2 : Fr m1 m2) (h3 : CpM 10 10 28 (fun k => m2.2.1 13 k) m2 m3) : SimM m m3 := by
  obtain ⟨a1, a2, a3, a4, a5⟩ := h1
  obtain ⟨b1, b2, b3, b4⟩ := h2
  obtain ⟨c1, c2, c3, c4, c5⟩ := h3
  refine ⟨fun k p q r s t => by rw [c4, b3 k p q r s, a4], fun j hj => ?_⟩
  by_cases e : j = 10
  · subst e
    funext i
    by_cases hi : 10 ≤ i ∧ i < 38
    · have := c1 (i - 10) (by omega)
      rw [show 10 + (i - 10) = i by omega] at this
      rw [this, b1 13 (by omega)]
      have h4 : m1.2.1 13 (0 + (i - 10)) = m.2.1 10 (10 + (i - 10)) := a1 (i - 10) (by omega)
      rw [Nat.zero_add, show 10 + (i - 10) = i by omega] at h4
      exact h4
    · rw [c2 i (by omega), b2 i (by omega), a3 10 (by omega)]
  · rw [c3 j e, b1 j e, a3 j (by omega)]
theorem M_keepC {C : AC} {A : AA} {m m1 : MS} (h1 : CpM 13 0 28 (fun k => m.2.1 10 (10 + k)) m m1) (hC : VC C m) (hA : VA C A m) : VC C m1 ∧ VA C A m1 := ⟨VC_e hC h1.2.2.2.1 fun j hj => h1.2.2.1 j (by omega), VA_e hA h1.2.2.2.1 (h1.2.2.1 10 (by omega))⟩
theorem X_keep (k : Nat) (d : AH) (x : XS) (m : MS) (C : AC) (A : AA) (h6 : C.1 ≤ 6) (hX : VX C A (x.2.2.2.1 0)) : ∃ x1, callR (k + 1) n_X2_copyFrom [.ref 12, .ref 6] (P d x m) = some (.inl none, P d x1 m) ∧ FX 1 x x1 ∧ VX C A (x1.2.2.2.1 1) ∧ x1.1 = x.1 := by
  obtain ⟨s', e, q⟩ := X_copyFrom k (P d x m) 12 6 (x.2.2.2.1 1) (x.2.2.2.1 0) (StAt_P d x m 1 (by omega)) (StAt_P d x m 0 (by omega)) (by omega)
  have e2 : sput (P d x m) 12 s' = P d (xS x 1 s') m := P_s d x m 1 (by omega) s'
  rw [e2] at e
  exact ⟨xS x 1 s', e, xS_FX _ _ _, by rw [xS_s]; exact VX_EqS h6 hX q, rfl⟩
def AskOK (nX nM : Nat) (as : List Value) : Prop := ∀ (Z : Nat → Bool) (d : AH) (x : XS) (m : MS), Rel Z d x m → ∀ k, ∃ (r : Int32) (x' : XS), callR (k + 1000) nX (.ref 0 :: as) (P d x m) = some (.inl (some (.int r)), P d x' m) ∧ SimX x x' ∧ ∃ m', callR (k + 1000) nM (.ref 153 :: as) (P d x' m) = some (.inl (some (.int r)), P d x' m') ∧ SimM m m'
theorem AskOK_ok {nX nM : Nat} {as : List Value} (h : AskOK nX nM as) : OpOK nX nM as := by
  intro Z d x m hR k
  obtain ⟨r, x', e1, s1, m', e2, s2⟩ := h Z d x m hR k
  exact ⟨r, Z, d, x', m', e1, e2, Rel_sim hR s1 s2, by omega, by omega⟩
theorem ask_n {nX nM : Nat} {as : List Value} {d : AH} {x : XS} {m : MS} {k : Nat} (r : Int32) (e1 : callR (k + 1000) nX (.ref 0 :: as) (P d x m) = some (.inl (some (.int r)), P d x m)) (e2 : callR (k + 1000) nM (.ref 153 :: as) (P d x m) = some (.inl (some (.int r)), P d x m)) : ∃ (r : Int32) (x' : XS), callR (k + 1000) nX (.ref 0 :: as) (P d x m) = some (.inl (some (.int r)), P d x' m) ∧ SimX x x' ∧ ∃ m', callR (k + 1000) nM (.ref 153 :: as) (P d x' m) = some (.inl (some (.int r)), P d x' m') ∧ SimM m m' := ⟨r, x, e1, SimX_refl x, m, e2, SimM_refl m⟩
theorem op_left (v : Int32) : AskOK n_X0_left n_X4_left [.int v] := by
  intro Z d x m hR k
  obtain ⟨hZ, C, A, n, u, a, t, nr, F, fo, hV, hA, hX, hW, hN, hP, hT, hRR, hF, hD, hB, hI⟩ := id hR
  have hvp := (hV.2.1 d (Ext_refl Z d)).1
  have h6 := hV.1.1.2
  have hfl := flag_eq hV
  have xv := X_isValley (k + 998) d x m C (hvp.1 x m)
  have mv := M_isValley (k + 998) d x m
  rw [hfl] at mv
  by_cases c1 : 0 < C.2.2.2.1
  · by_cases c2 : inI 0 100 v = true
    · obtain ⟨j, hj, rfl⟩ := inI_0 (n := 100) (by omega) c2
      have hC := Rel_XC hV hRR hF hB.1
      have hCm := Rel_VC hV.1 hRR hF hB.2.1
      have hAm := Rel_VA (fo := fo) (F := F) hA hB.2.2
      have hWw := Rel_WA (fo := fo) (F := F) hW
      obtain ⟨x1, e1, f1, v1, -⟩ := X_keep (k + 998) d x m (CW C fo F none) A h6 hX
      obtain ⟨x2, e2, f2, v2⟩ := X_goesTill (k + 794) d m (CW C fo F none) j (by omega) A x1 hWw (XC_fr hC f1) (Rel_XA v1)
      have e3 := X_left0 (k + 998) d x2 m 1 (by omega) (CW C fo F none) _ h6 v2.1
      obtain ⟨m1, g1, q1⟩ := M_keeps (k + 998) d x2 m
      obtain ⟨hC1, hA1⟩ := M_keepC q1 hCm hAm
      obtain ⟨m2, g2, q2, w2⟩ := M_passesAll (k + 990) d x2 (CW C fo F none) j (by omega) A m1 hWw hC1 hA1
      have g3 := M_worthAll (k + 996) d x2 m2 C.1 h6 (VC_fr hC1 q2).1.1
      obtain ⟨m3, g4, q4⟩ := M_laysBack (k + 997) d x2 m2
      refine ⟨sumI ((itA (CW C fo F none) j A).1 0) C.1, x2, ?_, SimX_trans (FX_Sim f1) (FX_Sim f2), m3, ?_, M_back q1 q2 q4⟩
      · have e3' : callR (k + 999) n_X2_left [.ref 12] (P d x2 m) = _ := e3
        simp (disch := omega) only [e_X0_left_0, e_X0_left_7, e_X0_left_19, e_X0_left_21, c_X0_left, cond_true, cond_false, Option.bind_some, rI_s, rL_s, rR_s, rV_s, cnd_d, cnd_ne, cnd_eq, bI_d0, bI_t0, ite_not, decide_eq_false_iff_not, decide_eq_true_eq, lg_cmp_ge, lg_cmp_le, lg_cmp_gt, lg_cmp_lt, lg_cmp_eq, okb_1, okb_0, okb_b, eq_self, if_true, if_false, Bool.true_eq_false, Bool.false_eq_true, isO_X, xv, c1, X_in, in_0_100, c2, rx_1, rx_2, e1, e2, e3']
        rfl
      · have mv2 := M_isValley (k + 998) d x2 m
        rw [hfl] at mv2
        have hs : sumI (fun h => m2.2.1 10 (14 + 4 * h)) C.1 = sumI ((itA (CW C fo F none) j A).1 0) C.1 := sumI_c fun i hi => (w2.1 i hi).1
        rw [hs] at g3
        simp (disch := omega) only [e_X4_left_0, e_X4_left_7, e_X4_left_19, e_X4_left_21, c_X4_left, e_X4_worthIn_0, c_X4_worthIn, cond_true, cond_false, Option.bind_some, rI_s, rL_s, rR_s, rV_s, cnd_d, cnd_ne, cnd_eq, bI_d0, bI_t0, ite_not, decide_eq_false_iff_not, decide_eq_true_eq, lg_cmp_ge, lg_cmp_le, lg_cmp_gt, lg_cmp_lt, lg_cmp_eq, okb_1, okb_0, okb_b, eq_self, if_true, if_false, Bool.true_eq_false, Bool.false_eq_true, isO_M, mv2, c1, M_in, in_0_100, c2, g1, g2, g3, g4]
    · have c2' : inI 0 100 v = false := by simpa using c2
      refine ask_n (-1) ?_ ?_
      · simp (disch := omega) only [e_X0_left_0, e_X0_left_7, e_X0_left_19, e_X0_left_21, c_X0_left, cond_true, cond_false, Option.bind_some, rI_s, rL_s, rR_s, rV_s, cnd_d, cnd_ne, cnd_eq, bI_d0, bI_t0, ite_not, decide_eq_false_iff_not, decide_eq_true_eq, lg_cmp_ge, lg_cmp_le, lg_cmp_gt, lg_cmp_lt, lg_cmp_eq, okb_1, okb_0, okb_b, eq_self, if_true, if_false, Bool.true_eq_false, Bool.false_eq_true, isO_X, xv, c1, X_in, in_0_100, c2']
      · simp (disch := omega) only [e_X4_left_0, e_X4_left_7, e_X4_left_19, e_X4_left_21, c_X4_left, cond_true, cond_false, Option.bind_some, rI_s, rL_s, rR_s, rV_s, cnd_d, cnd_ne, cnd_eq, bI_d0, bI_t0, ite_not, decide_eq_false_iff_not, decide_eq_true_eq, lg_cmp_ge, lg_cmp_le, lg_cmp_gt, lg_cmp_lt, lg_cmp_eq, okb_1, okb_0, okb_b, eq_self, if_true, if_false, Bool.true_eq_false, Bool.false_eq_true, isO_M, mv, c1, M_in, in_0_100, c2']
  · refine ask_n (-1) ?_ ?_
    · simp (disch := omega) only [e_X0_left_0, e_X0_left_7, e_X0_left_19, e_X0_left_21, c_X0_left, cond_true, cond_false, Option.bind_some, rI_s, rL_s, rR_s, rV_s, cnd_d, cnd_ne, cnd_eq, bI_d0, bI_t0, ite_not, decide_eq_false_iff_not, decide_eq_true_eq, lg_cmp_ge, lg_cmp_le, lg_cmp_gt, lg_cmp_lt, lg_cmp_eq, okb_1, okb_0, okb_b, eq_self, if_true, if_false, Bool.true_eq_false, Bool.false_eq_true, isO_X, xv, c1]
    · simp (disch := omega) only [e_X4_left_0, e_X4_left_7, e_X4_left_19, e_X4_left_21, c_X4_left, cond_true, cond_false, Option.bind_some, rI_s, rL_s, rR_s, rV_s, cnd_d, cnd_ne, cnd_eq, bI_d0, bI_t0, ite_not, decide_eq_false_iff_not, decide_eq_true_eq, lg_cmp_ge, lg_cmp_le, lg_cmp_gt, lg_cmp_lt, lg_cmp_eq, okb_1, okb_0, okb_b, eq_self, if_true, if_false, Bool.true_eq_false, Bool.false_eq_true, isO_M, mv, c1]
