theorem XC_e {d : AH} {C : AC} {x x' : XS} (h : XC d C x) (e1 : x'.2.2.2.2 = x.2.2.2.2) (e2 : x'.2.1 = x.2.1) (e3 : ∀ k, k = 4 ∨ k = 15 ∨ k = 17 ∨ k = 102 → x'.1 k = x.1 k) : XC d C x' := by
  obtain ⟨h1, h6, h2, h3, h4⟩ := h
  refine ⟨by rw [e1]; exact h1, h6, ?_, ?_, h4⟩
  · rw [e3 4 (by omega)]
    split at h2
    · exact h2
    · obtain ⟨r, hr, a, b⟩ := h2
      exact ⟨r, hr, a, RuX_fr b e1 (e3 102 (by omega))⟩
  · rw [e3 17 (by omega), e3 15 (by omega), e2]
    exact h3
theorem come_4 (A : AA) : (comeA A).1.1 4 = A.1 4 := by
  unfold comeA
  split
  · rfl
  · simp [va_up]
theorem hour_l (C : AC) (A : AA) (h : Nat) : (hourA C A).1 0 h + (hourA C A).1 4 h = A.1 0 h + A.1 4 h := by
  have e0 : (hourA C A).1 0 h = (comeA (goA C A)).1.1 0 h - mnA (comeA (goA C A)).1 h := rfl
  have e4 : (hourA C A).1 4 h = (comeA (goA C A)).1.1 4 h + mnA (comeA (goA C A)).1 h := rfl
  rw [e0, e4, come_w, come_4, go_arr]
  grind
theorem send_arr (C : AC) (A : AA) (o : Option Nat) : (sendA C A o).1 = A.1 := by
  unfold sendA
  split
  · rfl
  · split <;> rfl
theorem VA_to {C : AC} {A : AA} {m : MS} {fo F} (h : VA (CW C fo F none) A m) (hB : m.1 27 = 0) (ht : ∀ h, h < C.1 → m.2.1 10 (93 + 3 * h) = A.1 0 h + A.1 4 h) : VAs C A (m.2.1 10) := by
  obtain ⟨a1, a2, a3, a4, a5, -⟩ := h
  rw [hB, Int32.sub_zero] at a5
  exact ⟨a1, a2, a3, a4, a5, ht⟩
theorem WA_to {C : AC} {B : AA} {fo F} (h : WA (CW C fo F none) B) (g : ∀ h, h < C.1 → 0 ≤ B.1 0 h ∧ B.1 0 h ≤ 99) (g2 : ∃ w, w ≤ 999 ∧ B.2.1 1 = nI w) : WA0 C B := ⟨h.1, h.2.1, h.2.2.1, h.2.2.2.1, g, g2⟩
theorem VX_to {C : AC} {B : AA} {s : SS} {fo F q} (h : VX (CW C fo F q) B s) : VX C B s := h
theorem WA0_hour {C : AC} {A : AA} {fo F} (h : WA0 C A) (hn : ¬ A.2.1 1 = 999) : WA0 C (hourA (CW C fo F none) A) := by
  have hw : WA (CW C fo F none) A := Rel_WA h
  have h1 := WA_hour hw
  have h2 := WB_hour hw h.2.2.2.2.1
  have h3 : ∃ w, w ≤ 999 ∧ (hourA (CW C fo F none) A).2.1 1 = nI w := by
    obtain ⟨w, hw9, e⟩ := h.2.2.2.2.2
    refine ⟨w + 1, ?_, by rw [hour_1, e, nI_1]⟩
    have : w ≠ 999 := fun q => hn (by rw [e, q]; rfl)
    omega
  generalize hourA (CW C fo F none) A = B at h1 h2 h3 ⊢
  exact WA_to h1 h2 h3
theorem RelP_b {Z : Nat → Bool} {d : AH} {x : XS} {m : MS} {C : AC} {n u a t nr : Nat} {F : Nat → (Nat → Int64) → Int64} {fo : Option Nat} (h : RelP Z d x m C n u a t nr F fo) : m.1 27 = 0 := h.2.2.2.2.2.2.2.2.1.2.2
theorem op_hour : OpOK n_X0_hour n_X4_hour [] := by
  intro Z d x m hR k
  obtain ⟨C, A, n, u, a, t, nr, F, fo, hP, hS⟩ := Rel_to hR
  obtain ⟨hZ, hV, hN, hPR, hT, hRR, hF, hD, hBr, hI⟩ := id hP
  obtain ⟨hA, hX, hW⟩ := id hS
  have hvp := (hV.2.1 d (Ext_refl Z d)).1
  have h6 := hV.1.1.2
  have hfl := flag_eq hV
  have xv := X_isValley (k + 998) d x m C (hvp.1 x m)
  have mv : ∀ x, _ := fun x => M_isValley (k + 998) d x m
  rw [hfl] at mv
  have r9 : rdI (P d x m) 6 2 9 = some (A.2.1 1) := by rw [← hX.2.2.1.2.1]; exact rp_9 d x m 0 (by omega)
  have hno : (¬ 0 < C.2.2.2.1 ∨ A.2.1 1 = 999) → ∃ (r : Int32) (Z' : Nat → Bool) (d' : AH) (x' : XS) (m' : MS), callR (k + 1000) n_X0_hour [.ref 0] (P d x m) = some (.inl (some (.int r)), P d' x' m) ∧ callR (k + 1000) n_X4_hour [.ref 153] (P d' x' m) = some (.inl (some (.int r)), P d' x' m') ∧ Rel Z' d' x' m' ∧ d'.1 ≤ d.1 + 10000 ∧ d'.2.1 ≤ d.2.1 + 80000 := by
    intro h
    refine ⟨-1, Z, d, x, m, ?_, ?_, hR, by omega, by omega⟩
    · by_cases c1 : 0 < C.2.2.2.1
      · have c2 := h.resolve_left (fun q => q c1)
        simp (disch := omega) only [c_X0_hour, e_X0_hour_0, e_X0_hour_7, e_X0_hour_20, cond_true, cond_false, Option.bind_some, rI_s, rL_s, rR_s, rV_s, cnd_d, cnd_ne, cnd_eq, bI_d0, bI_t0, ite_not, decide_eq_false_iff_not, decide_eq_true_eq, lg_cmp_ge, lg_cmp_le, lg_cmp_gt, lg_cmp_lt, lg_cmp_eq, okb_1, okb_0, okb_b, eq_self, if_true, if_false, Bool.true_eq_false, Bool.false_eq_true, isO_X, xv, c1, rx_1, r9, c2]
      · simp (disch := omega) only [c_X0_hour, e_X0_hour_0, e_X0_hour_20, cond_true, cond_false, Option.bind_some, rI_s, rL_s, rR_s, rV_s, cnd_d, cnd_ne, cnd_eq, bI_d0, bI_t0, ite_not, decide_eq_false_iff_not, decide_eq_true_eq, lg_cmp_ge, lg_cmp_le, lg_cmp_gt, lg_cmp_lt, lg_cmp_eq, okb_1, okb_0, okb_b, eq_self, if_true, if_false, Bool.true_eq_false, Bool.false_eq_true, isO_X, xv, c1]
    · by_cases c1 : 0 < C.2.2.2.1
      · have c2 := h.resolve_left (fun q => q c1)
        simp (disch := omega) only [c_X4_hour, e_X4_hour_0, e_X4_hour_7, e_X4_hour_20, cond_true, cond_false, Option.bind_some, rI_s, rL_s, rR_s, rV_s, cnd_d, cnd_ne, cnd_eq, bI_d0, bI_t0, ite_not, decide_eq_false_iff_not, decide_eq_true_eq, lg_cmp_ge, lg_cmp_le, lg_cmp_gt, lg_cmp_lt, lg_cmp_eq, okb_1, okb_0, okb_b, eq_self, if_true, if_false, Bool.true_eq_false, Bool.false_eq_true, isO_M, mv, c1, rm_21, li_10, lm_10, hA.2.1.2.1, c2]
      · simp (disch := omega) only [c_X4_hour, e_X4_hour_0, e_X4_hour_20, cond_true, cond_false, Option.bind_some, rI_s, rL_s, rR_s, rV_s, cnd_d, cnd_ne, cnd_eq, bI_d0, bI_t0, ite_not, decide_eq_false_iff_not, decide_eq_true_eq, lg_cmp_ge, lg_cmp_le, lg_cmp_gt, lg_cmp_lt, lg_cmp_eq, okb_1, okb_0, okb_b, eq_self, if_true, if_false, Bool.true_eq_false, Bool.false_eq_true, isO_M, mv, c1]
  by_cases c1 : 0 < C.2.2.2.1
  · by_cases c2 : A.2.1 1 = 999
    · exact hno (Or.inr c2)
    · obtain ⟨s', e1, q1⟩ := X_keeps (k + 997) d x m u a hPR.1 hPR.2.1 hPR.2.2.1 hPR.2.2.2.2.1
      have hC := Rel_XC hV hRR hF hBr.1
      have hC1 : XC d (CW C fo F none) (xF (xF (xS x (2 + a) s') 21 (nI ((a + 1) % 20))) 20 (nI (min 20 (u + 1)))) := XC_e hC rfl rfl fun k hk => by
        rw [xF_n _ _ _ _ (by omega), xF_n _ _ _ _ (by omega), xS_1]
      have hX1 : VX C A ((xF (xF (xS x (2 + a) s') 21 (nI ((a + 1) % 20))) 20 (nI (min 20 (u + 1)))).2.2.2.1 0) := by
        show VX C A (va_up x.2.2.2.1 (2 + a) s' 0)
        rw [va_up_ne _ _ (by omega)]; exact hX
      have hWw := Rel_WA (fo := fo) (F := F) hW
      obtain ⟨x2, e2, f2, -, v2⟩ := X_hour (k + 795) d _ m 0 (by omega) (CW C fo F none) A hWw hC1 (Rel_XA hX1)
      obtain ⟨m1, g1, km⟩ := M_keepsAct (k + 998) d x2 m u hPR.1 hPR.2.2.2.1
      obtain ⟨hP1, hS1⟩ := Rel_keep hP hS s' q1 km
      obtain ⟨hZ1, hV1, hN1, hPR1, hT1, hRR1, hF1, hD1, hBr1, hI1⟩ := id hP1
      obtain ⟨m2, g2, fr2, -, w2⟩ := M_passes (k + 992) d x2 m1 (CW C fo F none) A hWw (Rel_VC hV1.1 hRR1 hF1 hBr1.2.1) (Rel_VA hS1.1 hBr1.2.2)
      have hP2 := RelP_st hP1 f2 fr2
      have hS2 : RelS x2 m2 C (hourA (CW C fo F none) A) := ⟨VA_to w2 (RelP_b hP2) (fun h hh => by rw [fr2.2.1 _ (by omega), hour_l]; exact hS1.1.2.2.2.2.2 h hh), VX_to v2.1, WA0_hour hW c2⟩
      refine ⟨lossA (CW C fo F none) A, Z, d, x2, m2, ?_, ?_, Rel_of hP2 hS2, by omega, by omega⟩
      · have e2' : callR (k + 999) n_X0_goesOn [.ref 0, .ref 6] _ = _ := e2
        have hn : ¬ A.2.1 1 = nI 999 := c2
        simp (disch := omega) only [c_X0_hour, e_X0_hour_0, e_X0_hour_7, e_X0_hour_22, cond_true, cond_false, Option.bind_some, rI_s, rL_s, rR_s, rV_s, cnd_d, cnd_ne, cnd_eq, bI_d0, bI_t0, ite_not, decide_eq_false_iff_not, decide_eq_true_eq, lg_cmp_ge, lg_cmp_le, lg_cmp_gt, lg_cmp_lt, lg_cmp_eq, okb_1, okb_0, okb_b, eq_self, if_true, if_false, Bool.true_eq_false, Bool.false_eq_true, isO_X, xv, c1, rx_1, r9, c2, e1, e2']
      · simp (disch := omega) only [c_X4_hour, e_X4_hour_0, e_X4_hour_7, e_X4_hour_22, cond_true, cond_false, Option.bind_some, rI_s, rL_s, rR_s, rV_s, cnd_d, cnd_ne, cnd_eq, bI_d0, bI_t0, ite_not, decide_eq_false_iff_not, decide_eq_true_eq, lg_cmp_ge, lg_cmp_le, lg_cmp_gt, lg_cmp_lt, lg_cmp_eq, okb_1, okb_0, okb_b, eq_self, if_true, if_false, Bool.true_eq_false, Bool.false_eq_true, isO_M, mv, c1, rm_21, li_10, lm_10, hA.2.1.2.1, c2, g1, g2]
  · exact hno (Or.inl c1)
