theorem M_muL (k : Nat) (d : AH) (x : XS) (C : AC) (fo : Option Nat) (F : Nat → (Nat → Int64) → Int64) (A : AA) (h6 : C.1 ≤ 6) (m0 : MS) (n w b mo : Int32) (s : Nat) (hs : s < 64) : ∀ (r i : Nat) (m : MS), i + r = C.1 → VC (CW C fo F none) m → KM m0 m → VA (CW C fo F none) (muA A s i) m → ∃ m', evR T_X4_silent (callR (k + 1)) 61 ([(0, .ref 153), (1, .int n), (2, .int w), (3, .int b), (4, .int mo), (5, .int (nI s)), (6, .int (nI i))], [], P d x m) = evR T_X4_silent (callR (k + 1)) 103 ([(0, .ref 153), (1, .int n), (2, .int w), (3, .int b), (4, .int mo), (5, .int (nI s))], [], P d x m') ∧ VC (CW C fo F none) m' ∧ KM m0 m' ∧ VA (CW C fo F none) (muA A s C.1) m'
  | 0, i, m, hi, hC, hk, hA => by
    have e : i = C.1 := by omega
    subst e
    refine ⟨m, ?_, hC, hk, hA⟩
    rw [e_X4_silent_61]
    simp (disch := omega) only [cond_true, cond_false, Option.bind_some, rI_s, rL_s, rR_s, rV_s, cnd_d, cnd_ne, cnd_eq, bI_d0, bI_t0, ite_not, decide_eq_false_iff_not, decide_eq_true_eq, lg_cmp_ge, lg_cmp_le, lg_cmp_gt, lg_cmp_lt, lg_cmp_eq, okb_1, okb_0, okb_b, eq_self, if_true, if_false, Bool.true_eq_false, Bool.false_eq_true, li_3, rm_21, lm_10, show m.2.1 10 3 = nI C.1 from hC.1.1, le_rT]
  | r + 1, i, m, hi, hC, hk, hA => by
    have hh := M_isOf k (P d x m) s i hs (by omega)
    have h3 : m.2.1 10 3 = nI C.1 := hC.1.1
    have hm : muA A s (i + 1) = if hsB s i = true then setA (muA A s i) 2 i 0 else muA A s i := rfl
    cases c : hsB s i with
    | true =>
      rw [c] at hh
      rw [if_pos c] at hm
      have hf := mA_Fr m (14 + 4 * i + 2) 0 (by omega)
      obtain ⟨m2, e2, g2, k2, a2⟩ := M_muL k d x C fo F A h6 m0 n w b mo s hs r (i + 1) (mA m 10 (14 + 4 * i + 2) 0) (by omega) (VC_fr hC hf) (KM_fr hk hf) (by rw [hm]; exact VA_says hA i (by omega) h6 0)
      refine ⟨m2, ?_, g2, k2, a2⟩
      rw [← e2, e_X4_silent_61]
      simp (disch := omega) only [e_X4_silent_72, e_X4_silent_82, e_X4_silent_97, cond_true, cond_false, Option.bind_some, rI_s, rL_s, rR_s, rV_s, cnd_d, cnd_ne, cnd_eq, bI_d0, bI_t0, ite_not, decide_eq_false_iff_not, decide_eq_true_eq, lg_cmp_ge, lg_cmp_le, lg_cmp_gt, lg_cmp_lt, lg_cmp_eq, okb_1, okb_0, okb_b, eq_self, if_true, if_false, Bool.true_eq_false, Bool.false_eq_true, li_2, li_3, li_4, li_14, pk_mul, nI_add, rm_21, lm_10, sm_10, h3, nI_leP, if_neg (show ¬ C.1 ≤ i by omega), hh, nI_1]
    | false =>
      rw [c] at hh
      rw [if_neg (by rw [c]; decide)] at hm
      obtain ⟨m2, e2, g2, k2, a2⟩ := M_muL k d x C fo F A h6 m0 n w b mo s hs r (i + 1) m (by omega) hC hk (by rw [hm]; exact hA)
      refine ⟨m2, ?_, g2, k2, a2⟩
      rw [← e2, e_X4_silent_61]
      simp (disch := omega) only [e_X4_silent_72, e_X4_silent_97, cond_true, cond_false, Option.bind_some, rI_s, rL_s, rR_s, rV_s, cnd_d, cnd_ne, cnd_eq, bI_d0, bI_t0, ite_not, decide_eq_false_iff_not, decide_eq_true_eq, lg_cmp_ge, lg_cmp_le, lg_cmp_gt, lg_cmp_lt, lg_cmp_eq, okb_1, okb_0, okb_b, eq_self, if_true, if_false, Bool.true_eq_false, Bool.false_eq_true, li_3, rm_21, lm_10, h3, nI_leP, if_neg (show ¬ C.1 ≤ i by omega), hh, nI_1]
theorem M_silentL (k : Nat) (d : AH) (x : XS) (C : AC) (fo : Option Nat) (F : Nat → (Nat → Int64) → Int64) (n : Nat) (hn : n ≤ 60) (h6 : C.1 ≤ 6) (A : AA) (hW : WA (CW C fo F none) A) (m0 : MS) (hC : VC (CW C fo F none) m0) (hA : VA (CW C fo F none) A m0) (w : Int32) : ∀ (r i : Nat) (m : MS), i + r = 2 ^ C.1 → KM m0 m → m.2.1 10 = m0.2.1 10 → ∃ m', evR T_X4_silent (callR (k + 9)) 45 ([(0, .ref 153), (1, .int (nI n)), (2, .int w), (3, .int (nI (slB (CW C fo F none) A n i).1)), (4, .int (slB (CW C fo F none) A n i).2), (5, .int (nI i))], [], P d x m) = some (.inl (some (.int (slR (CW C fo F none) A n w))), P d x m') ∧ KM m0 m' ∧ m'.2.1 10 = m0.2.1 10
  | 0, i, m, hi, hk, he => by
    have hp : 2 ^ C.1 ≤ 2 ^ 6 := Nat.pow_le_pow_right (by omega) h6
    have e : i = 2 ^ C.1 := by omega
    subst e
    have h3 : m.2.1 10 3 = nI C.1 := (KM_VC hk hC).1.1
    have hb := M_bits (k + 8) (P d x m) _ (slB_lt (CW C fo F none) A n (2 ^ C.1) (by omega))
    refine ⟨m, ?_, hk, he⟩
    rw [e_X4_silent_45]
    rw [show slR (CW C fo F none) A n w = if w = 0 then pcI (nI (slB (CW C fo F none) A n (2 ^ C.1)).1) else if w = 1 then nI (slB (CW C fo F none) A n (2 ^ C.1)).1 else (slB (CW C fo F none) A n (2 ^ C.1)).2 from rfl]
    by_cases c : w = 0
    · simp (disch := omega) only [e_X4_silent_152, e_X4_silent_156, e_X4_silent_174, cond_true, cond_false, Option.bind_some, rI_s, rL_s, rR_s, rV_s, cnd_d, cnd_ne, cnd_eq, bI_d0, bI_t0, ite_not, decide_eq_false_iff_not, decide_eq_true_eq, lg_cmp_ge, lg_cmp_le, lg_cmp_gt, lg_cmp_lt, lg_cmp_eq, okb_1, okb_0, okb_b, eq_self, if_true, if_false, Bool.true_eq_false, Bool.false_eq_true, li_3, rm_21, lm_10, h3, bit7, le_rT, c, hb]
    · by_cases c2 : w = 1
      · simp (disch := omega) only [e_X4_silent_152, e_X4_silent_163, e_X4_silent_168, e_X4_silent_174, cond_true, cond_false, Option.bind_some, rI_s, rL_s, rR_s, rV_s, cnd_d, cnd_ne, cnd_eq, bI_d0, bI_t0, ite_not, decide_eq_false_iff_not, decide_eq_true_eq, lg_cmp_ge, lg_cmp_le, lg_cmp_gt, lg_cmp_lt, lg_cmp_eq, okb_1, okb_0, okb_b, eq_self, if_true, if_false, Bool.true_eq_false, Bool.false_eq_true, li_3, rm_21, lm_10, h3, bit7, le_rT, c, c2, show ¬ (1 : Int32) = 0 by decide]
      · simp (disch := omega) only [e_X4_silent_152, e_X4_silent_163, e_X4_silent_172, e_X4_silent_174, cond_true, cond_false, Option.bind_some, rI_s, rL_s, rR_s, rV_s, cnd_d, cnd_ne, cnd_eq, bI_d0, bI_t0, ite_not, decide_eq_false_iff_not, decide_eq_true_eq, lg_cmp_ge, lg_cmp_le, lg_cmp_gt, lg_cmp_lt, lg_cmp_eq, okb_1, okb_0, okb_b, eq_self, if_true, if_false, Bool.true_eq_false, Bool.false_eq_true, li_3, rm_21, lm_10, h3, bit7, le_rT, c, c2]
  | r + 1, i, m, hi, hk, he => by
    have hp : 2 ^ C.1 ≤ 2 ^ 6 := Nat.pow_le_pow_right (by omega) h6
    have hi64 : i < 64 := by omega
    have hC1 := KM_VC hk hC
    have h3 : m.2.1 10 3 = nI C.1 := hC1.1.1
    obtain ⟨m2, e2, g2, k2, a2⟩ := M_muL (k + 8) d x C fo F A h6 m0 (nI n) w (nI (slB (CW C fo F none) A n i).1) (slB (CW C fo F none) A n i).2 i hi64 C.1 0 m (by omega) hC1 hk (KM_VA hk he hA)
    obtain ⟨m3, e3, p10, pj, pq⟩ := M_worthIn k d x (CW C fo F none) n (by omega) (muA A i C.1) m0 m2 (WA_mu hW i C.1) g2 a2 k2.1 k2.2.1
    have e4 : callR (k + 9) n_X4_worthIn [.ref 153, .int (nI n)] (P d x m2) = some (.inl (some (.int (slV (CW C fo F none) A n i))), P d x m3) := e3
    obtain ⟨m5, e5, k5, he5⟩ := M_silentL k d x C fo F n hn h6 A hW m0 hC hA w r (i + 1) m3 (by omega) (KM_wi k2 p10 pj pq) p10
    refine ⟨m5, ?_, k5, he5⟩
    rw [← e5]
    have hB : slB (CW C fo F none) A n (i + 1) = if (slB (CW C fo F none) A n i).2 < slV (CW C fo F none) A n i ∨ (slV (CW C fo F none) A n i = (slB (CW C fo F none) A n i).2 ∧ pcI (nI i) < pcI (nI (slB (CW C fo F none) A n i).1)) then (i, slV (CW C fo F none) A n i) else slB (CW C fo F none) A n i := rfl
    have hb := M_bits (k + 8) (P d x m3) i hi64
    have hb2 := M_bits (k + 8) (P d x m3) _ (slB_lt (CW C fo F none) A n i (by omega))
    rw [nI_0] at e2
    have hnle : ¬ nI (2 ^ C.1) ≤ nI i := by rw [nI_leP (by omega) (by omega)]; omega
    rw [hB]
    generalize slV (CW C fo F none) A n i = v at e4 ⊢
    generalize hq : slB (CW C fo F none) A n i = q at e2 hb2 ⊢
    by_cases c1 : v < q.2
    · rw [if_neg (show ¬ (q.2 < v ∨ (v = q.2 ∧ pcI (nI i) < pcI (nI q.1))) from fun h => h.elim (fun h => Int32.lt_asymm c1 h) (fun h => by rw [h.1] at c1; exact Int32.lt_irrefl c1))]
      rw [e_X4_silent_45]
      simp (disch := omega) only [e_X4_silent_58, e_X4_silent_103, e_X4_silent_146, cond_true, cond_false, Option.bind_some, rI_s, rL_s, rR_s, rV_s, cnd_d, cnd_ne, cnd_eq, bI_d0, bI_t0, ite_not, decide_eq_false_iff_not, decide_eq_true_eq, lg_cmp_ge, lg_cmp_le, lg_cmp_gt, lg_cmp_lt, lg_cmp_eq, okb_1, okb_0, okb_b, eq_self, if_true, if_false, Bool.true_eq_false, Bool.false_eq_true, li_3, rm_21, lm_10, h3, bit7, hnle, e2, e4, c1, nI_1]
    · by_cases c2 : v = q.2
      · by_cases c3 : pcI (nI i) < pcI (nI q.1)
        · rw [if_pos (Or.inr ⟨c2, c3⟩), e_X4_silent_45]
          simp (disch := omega) only [e_X4_silent_58, e_X4_silent_103, e_X4_silent_117, e_X4_silent_124, e_X4_silent_139, e_X4_silent_146, cond_true, cond_false, Option.bind_some, rI_s, rL_s, rR_s, rV_s, cnd_d, cnd_ne, cnd_eq, bI_d0, bI_t0, ite_not, decide_eq_false_iff_not, decide_eq_true_eq, lg_cmp_ge, lg_cmp_le, lg_cmp_gt, lg_cmp_lt, lg_cmp_eq, okb_1, okb_0, okb_b, eq_self, if_true, if_false, Bool.true_eq_false, Bool.false_eq_true, li_3, rm_21, lm_10, h3, bit7, hnle, e2, e4, c1, lt_rF, show (v = q.2) = True from eq_true c2, hb, hb2, c3, nI_1]
        · rw [if_neg (fun h => h.elim (fun h => by rw [c2] at h; exact Int32.lt_irrefl h) (fun h => c3 h.2)), e_X4_silent_45]
          simp (disch := omega) only [e_X4_silent_58, e_X4_silent_103, e_X4_silent_117, e_X4_silent_124, e_X4_silent_136, e_X4_silent_146, cond_true, cond_false, Option.bind_some, rI_s, rL_s, rR_s, rV_s, cnd_d, cnd_ne, cnd_eq, bI_d0, bI_t0, ite_not, decide_eq_false_iff_not, decide_eq_true_eq, lg_cmp_ge, lg_cmp_le, lg_cmp_gt, lg_cmp_lt, lg_cmp_eq, okb_1, okb_0, okb_b, eq_self, if_true, if_false, Bool.true_eq_false, Bool.false_eq_true, li_3, rm_21, lm_10, h3, bit7, hnle, e2, e4, c1, lt_rF, show (v = q.2) = True from eq_true c2, hb, hb2, c3, nI_1]
      · have c4 : q.2 < v := Int32.lt_of_le_of_ne (Int32.not_lt.mp c1) (fun h => c2 h.symm)
        rw [if_pos (Or.inl c4), e_X4_silent_45]
        simp (disch := omega) only [e_X4_silent_58, e_X4_silent_103, e_X4_silent_117, e_X4_silent_139, e_X4_silent_146, cond_true, cond_false, Option.bind_some, rI_s, rL_s, rR_s, rV_s, cnd_d, cnd_ne, cnd_eq, bI_d0, bI_t0, ite_not, decide_eq_false_iff_not, decide_eq_true_eq, lg_cmp_ge, lg_cmp_le, lg_cmp_gt, lg_cmp_lt, lg_cmp_eq, okb_1, okb_0, okb_b, eq_self, if_true, if_false, Bool.true_eq_false, Bool.false_eq_true, li_3, rm_21, lm_10, h3, bit7, hnle, e2, e4, c1, c2, nI_1]
theorem op_silent (v w : Int32) : AskOK n_X0_silent n_X4_silent [.int v, .int w] := by
  intro Z d x m hR k
  obtain ⟨C, A, n, u, a, t, nr, F, fo, hP, hS⟩ := Rel_to hR
  obtain ⟨hZ, hV, hN, hPR, hT, hRR, hF, hD, hBr, hI⟩ := id hP
  have hvp := (hV.2.1 d (Ext_refl Z d)).1
  have h6 := hV.1.1.2
  have hfl := flag_eq hV
  have xv := X_isValley (k + 998) d x m C (hvp.1 x m)
  have mv : ∀ x, _ := fun x => M_isValley (k + 998) d x m
  rw [hfl] at mv
  by_cases c1 : 0 < C.2.2.2.1
  · cases c2 : inI 1 60 v with
    | true =>
      cases c3 : inI 0 2 w with
      | true =>
        obtain ⟨j, hj1, hj, rfl⟩ := inI_1 (n := 60) (by omega) c2
        have hC := Rel_XC hV hRR hF hBr.1
        have hCm := Rel_VC hV.1 hRR hF hBr.2.1
        have hAm := Rel_VA (fo := fo) (F := F) hS.1 hBr.2.2
        have hWw := Rel_WA (fo := fo) (F := F) hS.2.2
        have hvb : ∀ s, ∃ z, z ≤ 1000 ∧ slV (CW C fo F none) A j s = nI z := fun s => by
          obtain ⟨z, hz, ez⟩ := sum_bd C.1 h6 fun h hh => (it_w j (WA_mu hWw s C.1) (fun h hh => by rw [mu_w]; exact hS.2.2.2.2.2.2.1 h hh) h hh).1
          exact ⟨z, by omega, ez⟩
        obtain ⟨x3, e3, s3⟩ := X_silentL (k + 794) d m C fo F j hj h6 A hWw x hC hS.2.1 hvb w (2 ^ C.1) 0 x (by omega) (SimX_refl x)
        obtain ⟨m1, g1, q1⟩ := M_keeps (k + 998) d x3 m
        obtain ⟨km, ke⟩ := KM_keep q1
        obtain ⟨m3, g3, k3, he3⟩ := M_silentL (k + 990) d x3 C fo F j hj h6 A hWw m hCm hAm w (2 ^ C.1) 0 m1 (by omega) km ke
        refine ⟨slR (CW C fo F none) A j w, x3, ?_, s3, m3, ?_, KM_sim k3 he3⟩
        · have e3' : evR T_X0_silent (callR (k + 999)) 41 ([(0, .ref 0), (1, .int (nI j)), (2, .int w), (3, .int 0), (4, .int (-1)), (5, .int 0)], [], P d x m) = some (.inl (some (.int (slR (CW C fo F none) A j w))), P d x3 m) := e3
          simp (disch := omega) only [c_X0_silent, e_X0_silent_0, e_X0_silent_7, e_X0_silent_19, e_X0_silent_33, cond_true, cond_false, Option.bind_some, rI_s, rL_s, rR_s, rV_s, cnd_d, cnd_ne, cnd_eq, bI_d0, bI_t0, ite_not, decide_eq_false_iff_not, decide_eq_true_eq, lg_cmp_ge, lg_cmp_le, lg_cmp_gt, lg_cmp_lt, lg_cmp_eq, okb_1, okb_0, okb_b, eq_self, if_true, if_false, Bool.true_eq_false, Bool.false_eq_true, isO_X, xv, c1, X_in, in_1_60, c2, in_0_2, c3, e3']
        · have g3' : evR T_X4_silent (callR (k + 999)) 45 ([(0, .ref 153), (1, .int (nI j)), (2, .int w), (3, .int 0), (4, .int (-1)), (5, .int 0)], [], P d x3 m1) = some (.inl (some (.int (slR (CW C fo F none) A j w))), P d x3 m3) := g3
          simp (disch := omega) only [c_X4_silent, e_X4_silent_0, e_X4_silent_7, e_X4_silent_19, e_X4_silent_33, cond_true, cond_false, Option.bind_some, rI_s, rL_s, rR_s, rV_s, cnd_d, cnd_ne, cnd_eq, bI_d0, bI_t0, ite_not, decide_eq_false_iff_not, decide_eq_true_eq, lg_cmp_ge, lg_cmp_le, lg_cmp_gt, lg_cmp_lt, lg_cmp_eq, okb_1, okb_0, okb_b, eq_self, if_true, if_false, Bool.true_eq_false, Bool.false_eq_true, isO_M, mv, c1, M_in, in_1_60, c2, in_0_2, c3, g1, g3']
      | false =>
        refine ask_n (-1) ?_ ?_
        · simp (disch := omega) only [c_X0_silent, e_X0_silent_0, e_X0_silent_7, e_X0_silent_19, e_X0_silent_31, cond_true, cond_false, Option.bind_some, rI_s, rL_s, rR_s, rV_s, cnd_d, cnd_ne, cnd_eq, bI_d0, bI_t0, ite_not, decide_eq_false_iff_not, decide_eq_true_eq, lg_cmp_ge, lg_cmp_le, lg_cmp_gt, lg_cmp_lt, lg_cmp_eq, okb_1, okb_0, okb_b, eq_self, if_true, if_false, Bool.true_eq_false, Bool.false_eq_true, isO_X, xv, c1, X_in, in_1_60, c2, in_0_2, c3]
        · simp (disch := omega) only [c_X4_silent, e_X4_silent_0, e_X4_silent_7, e_X4_silent_19, e_X4_silent_31, cond_true, cond_false, Option.bind_some, rI_s, rL_s, rR_s, rV_s, cnd_d, cnd_ne, cnd_eq, bI_d0, bI_t0, ite_not, decide_eq_false_iff_not, decide_eq_true_eq, lg_cmp_ge, lg_cmp_le, lg_cmp_gt, lg_cmp_lt, lg_cmp_eq, okb_1, okb_0, okb_b, eq_self, if_true, if_false, Bool.true_eq_false, Bool.false_eq_true, isO_M, mv, c1, M_in, in_1_60, c2, in_0_2, c3]
    | false =>
      refine ask_n (-1) ?_ ?_
      · simp (disch := omega) only [c_X0_silent, e_X0_silent_0, e_X0_silent_7, e_X0_silent_31, cond_true, cond_false, Option.bind_some, rI_s, rL_s, rR_s, rV_s, cnd_d, cnd_ne, cnd_eq, bI_d0, bI_t0, ite_not, decide_eq_false_iff_not, decide_eq_true_eq, lg_cmp_ge, lg_cmp_le, lg_cmp_gt, lg_cmp_lt, lg_cmp_eq, okb_1, okb_0, okb_b, eq_self, if_true, if_false, Bool.true_eq_false, Bool.false_eq_true, isO_X, xv, c1, X_in, in_1_60, c2]
      · simp (disch := omega) only [c_X4_silent, e_X4_silent_0, e_X4_silent_7, e_X4_silent_31, cond_true, cond_false, Option.bind_some, rI_s, rL_s, rR_s, rV_s, cnd_d, cnd_ne, cnd_eq, bI_d0, bI_t0, ite_not, decide_eq_false_iff_not, decide_eq_true_eq, lg_cmp_ge, lg_cmp_le, lg_cmp_gt, lg_cmp_lt, lg_cmp_eq, okb_1, okb_0, okb_b, eq_self, if_true, if_false, Bool.true_eq_false, Bool.false_eq_true, isO_M, mv, c1, M_in, in_1_60, c2]
  · refine ask_n (-1) ?_ ?_
    · simp (disch := omega) only [c_X0_silent, e_X0_silent_0, e_X0_silent_31, cond_true, cond_false, Option.bind_some, rI_s, rL_s, rR_s, rV_s, cnd_d, cnd_ne, cnd_eq, bI_d0, bI_t0, ite_not, decide_eq_false_iff_not, decide_eq_true_eq, lg_cmp_ge, lg_cmp_le, lg_cmp_gt, lg_cmp_lt, lg_cmp_eq, okb_1, okb_0, okb_b, eq_self, if_true, if_false, Bool.true_eq_false, Bool.false_eq_true, isO_X, xv, c1]
    · simp (disch := omega) only [c_X4_silent, e_X4_silent_0, e_X4_silent_31, cond_true, cond_false, Option.bind_some, rI_s, rL_s, rR_s, rV_s, cnd_d, cnd_ne, cnd_eq, bI_d0, bI_t0, ite_not, decide_eq_false_iff_not, decide_eq_true_eq, lg_cmp_ge, lg_cmp_le, lg_cmp_gt, lg_cmp_lt, lg_cmp_eq, okb_1, okb_0, okb_b, eq_self, if_true, if_false, Bool.true_eq_false, Bool.false_eq_true, isO_M, mv, c1]
