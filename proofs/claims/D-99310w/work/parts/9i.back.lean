theorem op_back (v : Int32) : OpOK n_X0_back n_X4_back [.int v] := by
  intro Z d x m hR k
  obtain ⟨C, A, n, u, a, t, nr, F, fo, hP, hS⟩ := Rel_to hR
  obtain ⟨hZ, hV, hN, hPR, hT, hRR, hF, hD, hBr, hI⟩ := id hP
  cases c1 : inI 0 3 v with
  | false =>
    refine OpOK_n hR (-1) ?_ ?_
    · simp (disch := omega) only [c_X0_back, e_X0_back_0, e_X0_back_21, cond_true, cond_false, Option.bind_some, rI_s, rL_s, rR_s, rV_s, cnd_d, cnd_ne, cnd_eq, bI_d0, bI_t0, ite_not, decide_eq_false_iff_not, decide_eq_true_eq, lg_cmp_ge, lg_cmp_le, lg_cmp_gt, lg_cmp_lt, lg_cmp_eq, okb_1, okb_0, okb_b, eq_self, if_true, if_false, Bool.true_eq_false, Bool.false_eq_true, isO_X, X_in, in_0_3, c1]
    · simp (disch := omega) only [c_X4_back, e_X4_back_0, e_X4_back_21, cond_true, cond_false, Option.bind_some, rI_s, rL_s, rR_s, rV_s, cnd_d, cnd_ne, cnd_eq, bI_d0, bI_t0, ite_not, decide_eq_false_iff_not, decide_eq_true_eq, lg_cmp_ge, lg_cmp_le, lg_cmp_gt, lg_cmp_lt, lg_cmp_eq, okb_1, okb_0, okb_b, eq_self, if_true, if_false, Bool.true_eq_false, Bool.false_eq_true, isO_M, M_in, in_0_3, c1]
  | true =>
    obtain ⟨kk, hk, rfl⟩ := inI_0 (n := 3) (by omega) c1
    rcases hI kk (by omega) with ⟨h0, h21⟩ | ⟨i, hi, h21, hIM, hdis⟩
    · refine OpOK_n hR (-1) ?_ ?_
      · simp (disch := omega) only [c_X0_back, e_X0_back_0, e_X0_back_12, e_X0_back_21, cond_true, cond_false, Option.bind_some, rI_s, rL_s, rR_s, rV_s, cnd_d, cnd_ne, cnd_eq, bI_d0, bI_t0, ite_not, decide_eq_false_iff_not, decide_eq_true_eq, lg_cmp_ge, lg_cmp_le, lg_cmp_gt, lg_cmp_lt, lg_cmp_eq, okb_1, okb_0, okb_b, eq_self, if_true, if_false, Bool.true_eq_false, Bool.false_eq_true, isO_X, X_in, in_0_3, c1, rx_27, lq_152, h0, show nlV (va_rf none) = some true from rfl, Bool.not_true]
      · simp (disch := omega) only [c_X4_back, e_X4_back_0, e_X4_back_12, e_X4_back_21, cond_true, cond_false, Option.bind_some, rI_s, rL_s, rR_s, rV_s, cnd_d, cnd_ne, cnd_eq, bI_d0, bI_t0, ite_not, decide_eq_false_iff_not, decide_eq_true_eq, lg_cmp_ge, lg_cmp_le, lg_cmp_gt, lg_cmp_lt, lg_cmp_eq, okb_1, okb_0, okb_b, eq_self, if_true, if_false, Bool.true_eq_false, Bool.false_eq_true, isO_M, M_in, in_0_3, c1, rm_42, lm_21, h21]
    · obtain ⟨b1, b2, b3, v, s, nw, nwh, nn, fo', dr, C', A', n', a1, a2, a3, a4, hV', hA', hX', hW', hN', hF1, hF2, hD1, hD2⟩ := hIM
      have h6 := hV'.1.1.2
      have hIP : IP d i (.ref v) s nw nwh nn (oI fo') dr = d := by
        unfold IP
        refine Prod.ext rfl (Prod.ext rfl ?_)
        funext q
        show (if i ≤ q ∧ q < i + 9 then _ else d.2.2 q) = d.2.2 q
        by_cases z : i ≤ q ∧ q < i + 9
        · rw [if_pos z]
          unfold iC
          by_cases z0 : q - i = 0
          · rw [if_pos z0, ← a1, show q = i by omega]
          · rw [if_neg z0]
            by_cases z1 : q - i < 7
            · rw [if_pos z1, ← a2 (q - i - 1) (by omega), show i + 1 + (q - i - 1) = q by omega]
            · rw [if_neg z1]
              by_cases z2 : q - i = 7
              · rw [if_pos z2, ← a3, show i + 7 = q by omega]
              · rw [if_neg z2, ← a4, show i + 8 = q by omega]
        · rw [if_neg z]
      obtain ⟨x', g1, q1, q2, f1, ⟨f4, f10, f11, f20⟩, f2, f50, f51, f6⟩ := X17_back (k + 997) b1 b2 x m v s nw nwh nn (oI fo') dr
      rw [hIP] at g1
      have g1' : callR (k + 999) n_X17_back [.ref i] (P d x m) = some (.inl none, P d x' m) := g1
      obtain ⟨m', g2, c2⟩ := M_backL (callR (k + 999)) d x' (mF (mF (mF m 22 (oI fo')) 23 dr) 31 0) kk (by omega) 132 0 _ (by omega) (CpM_0 _ _ _ _)
      have e10 : ∀ c, c < 132 → m'.2.1 10 c = m.2.1 18 (132 * kk + c) := fun c hc => by
        have := c2.1 c hc
        rw [Nat.zero_add] at this
        exact this
      have ej : ∀ j, j ≠ 10 → m'.2.1 j = m.2.1 j := fun j hj => c2.2.2.1 j hj
      have ef : ∀ q, q ≠ 22 → q ≠ 23 → q ≠ 31 → m'.1 q = m.1 q := fun q a b c => by rw [c2.2.2.2.1, mF_n _ _ _ _ c, mF_n _ _ _ _ b, mF_n _ _ _ _ a]
      have m22 : m'.1 22 = oI fo' := by rw [c2.2.2.2.1, mF_n _ _ _ _ (by omega), mF_n _ _ _ _ (by omega), mF_s]
      have m23 : m'.1 23 = dr := by rw [c2.2.2.2.1, mF_n _ _ _ _ (by omega), mF_s]
      have m31 : m'.1 31 = 0 := by rw [c2.2.2.2.1, mF_s]
      have hX2 : VX C' A' (x'.2.2.2.1 0) := VX_EqS h6 hX' q1
      have hA2 : VAs C' A' (m'.2.1 10) := VAs_c h6 hA' fun i hi => e10 i (by omega)
      refine ⟨A'.2.1 1, Z, d, x', m', ?_, ?_, ?_, by omega, by omega⟩
      · have hl := lr_152 d x m kk i (by omega) hi
        have r9 : rdI (P d x' m) 6 2 9 = some (A'.2.1 1) := by rw [← hX2.2.2.1.2.1]; exact rp_9 _ x' m 0 (by omega)
        simp (disch := omega) only [c_X0_back, e_X0_back_0, e_X0_back_12, e_X0_back_23, cond_true, cond_false, Option.bind_some, rI_s, rL_s, rR_s, rV_s, cnd_d, cnd_ne, cnd_eq, bI_d0, bI_t0, ite_not, decide_eq_false_iff_not, decide_eq_true_eq, lg_cmp_ge, lg_cmp_le, lg_cmp_gt, lg_cmp_lt, lg_cmp_eq, okb_1, okb_0, okb_b, eq_self, if_true, if_false, Bool.true_eq_false, Bool.false_eq_true, isO_X, X_in, in_0_3, c1, rx_27, lq_152, hi, show nlV (va_rf (some i)) = some false from rfl, Bool.not_false, hl, g1', rx_1, r9]
      · have g2' : evR T_X4_back (callR (k + 999)) 50 ([(0, .ref 153), (1, .int (nI kk)), (2, .int 0)], [], P d x' (mF (mF (mF m 22 (oI fo')) 23 dr) 31 0)) = some (.inl (some (.int (A'.2.1 1))), P d x' m') := by
          rw [show A'.2.1 1 = m.2.1 18 (132 * kk + 10) from hA'.2.1.2.1.symm]
          exact g2
        have l19 : ∀ m : MS, ldI (P d x' m) 172 0 (nI kk) = some (m.2.1 19 kk) := fun m => lm_19 d x' m kk (by omega)
        have l20 : ∀ m : MS, ldI (P d x' m) 173 0 (nI kk) = some (m.2.1 20 kk) := fun m => lm_20 d x' m kk (by omega)
        simp (disch := omega) only [c_X4_back, e_X4_back_0, e_X4_back_12, e_X4_back_23, cond_true, cond_false, Option.bind_some, rI_s, rL_s, rR_s, rV_s, cnd_d, cnd_ne, cnd_eq, bI_d0, bI_t0, ite_not, decide_eq_false_iff_not, decide_eq_true_eq, lg_cmp_ge, lg_cmp_le, lg_cmp_gt, lg_cmp_lt, lg_cmp_eq, okb_1, okb_0, okb_b, eq_self, if_true, if_false, Bool.true_eq_false, Bool.false_eq_true, isO_M, M_in, in_0_3, c1, rm_42, lm_21, h21, show ¬ (1 : Int32) = 0 by decide, rm_40, rm_41, l19, l20, hF1, hD1, mF_2, wm_22, wm_23, wm_31, g2']
      · refine Rel_of (C := C') (A := A') (n := n') (u := 0) (a := a) (t := t) (nr := nr) (F := F) (fo := fo') ⟨hZ, ?_, ?_, ?_, ?_, ?_, ?_, ?_, ?_, ?_⟩ ⟨hA2, hX2, hW'⟩
        · rw [f50]
          exact VR_c hV' fun i hi => e10 i (by omega)
        · rw [f10]
          exact NR_w (NR_c hN' fun i hi => e10 i hi) q2
        · obtain ⟨p1, p2, p3, p4, p5, p6⟩ := hPR
          exact ⟨by omega, p2, by rw [f20, nI_0], by rw [m31, nI_0], by rw [f1 21 (by omega) (by omega) (by omega) (by omega)]; exact p5, fun j hj => absurd hj (by omega)⟩
        · obtain ⟨p1, p2, p3, p4⟩ := hT
          exact ⟨p1, by rw [f1 7 (by omega) (by omega) (by omega) (by omega)]; exact p2, by rw [ef 1 (by omega) (by omega) (by omega)]; exact p3, fun i hi => by rw [f2 21 (by omega) (by omega), ej 1 (by omega)]; exact p4 i hi⟩
        · exact RR_ext (fun _ _ => rfl) (Ext_refl Z d) hRR f51 (f1 102 (by omega) (by omega) (by omega) (by omega)) (by rw [f6]) (ef 2 (by omega) (by omega) (by omega)) fun j hj => ej j (by omega)
        · exact ⟨f4, m22, hF2⟩
        · exact ⟨by rw [f11, m23], by rw [m23]; exact hD2⟩
        · exact ⟨by rw [f1 17 (by omega) (by omega) (by omega) (by omega)]; exact hBr.1, by rw [ef 25 (by omega) (by omega) (by omega)]; exact hBr.2.1, by rw [ef 27 (by omega) (by omega) (by omega)]; exact hBr.2.2⟩
        · intro k' hk'
          rw [f6, ej 21 (by omega)]
          rcases hI k' hk' with h | ⟨i', z1, z2, z3, z4⟩
          · exact Or.inl h
          · exact Or.inr ⟨i', z1, z2, IM_ext (fun _ _ => rfl) (Ext_refl Z d) (fun _ _ => rfl) (fun c _ => by rw [ej 18 (by omega)]) (by rw [ej 19 (by omega)]) (by rw [ej 20 (by omega)]) z3, z4⟩
