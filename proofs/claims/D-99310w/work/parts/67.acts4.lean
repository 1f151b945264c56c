theorem op_light (g : Int32) : OpOK n_X0_light n_X4_light [.int g] := by
  intro Z d x m hR k
  obtain ⟨C, A, n, u, a, t, nr, F, fo, hP, hS⟩ := Rel_to hR
  have hV := hP.2.1
  have hvp := (hV.2.1 d (Ext_refl Z d)).1
  have h6 := hV.1.1.2
  have xh := X_isHouse (k + 996) d x m C (hvp.1 x m) h6 g
  have mh : ∀ x, _ := fun x => M_isHouse (k + 998) d x m C.1 h6 hV.1.1.1 g
  cases c1 : hB C.1 g with
  | false =>
    rw [c1] at xh mh
    refine OpOK_n hR (-1) ?_ ?_
    · simp (disch := omega) only [c_X0_light, e_X0_light_0, e_X0_light_32, cond_true, cond_false, Option.bind_some, rI_s, rL_s, rR_s, rV_s, cnd_d, cnd_ne, cnd_eq, bI_d0, bI_t0, ite_not, decide_eq_false_iff_not, decide_eq_true_eq, lg_cmp_ge, lg_cmp_le, lg_cmp_gt, lg_cmp_lt, lg_cmp_eq, okb_1, okb_0, okb_b, eq_self, if_true, if_false, Bool.true_eq_false, Bool.false_eq_true, isO_X, xh]
    · simp (disch := omega) only [c_X4_light, e_X4_light_0, e_X4_light_16, cond_true, cond_false, Option.bind_some, rI_s, rL_s, rR_s, rV_s, cnd_d, cnd_ne, cnd_eq, bI_d0, bI_t0, ite_not, decide_eq_false_iff_not, decide_eq_true_eq, lg_cmp_ge, lg_cmp_le, lg_cmp_gt, lg_cmp_lt, lg_cmp_eq, okb_1, okb_0, okb_b, eq_self, if_true, if_false, Bool.true_eq_false, Bool.false_eq_true, isO_M, mh]
  | true =>
    obtain ⟨q, hq, rfl⟩ := hB_of (by omega) c1
    rw [c1] at xh mh
    obtain ⟨b0, b1, b2, b3⟩ := hS.2.1.1 q hq
    obtain ⟨a0, a1, a2, a3⟩ := hS.1.1 q hq
    have hz1 := (hS.2.2.1 q hq).1
    have hz0 := (hS.2.2.2.2.2.2.1 q hq).1
    have r0 : ∀ x m, rdR (P d x m) 6 2 0 = some 7 := fun x m => rp_0 d x m 0 (by omega)
    have l0 : ∀ x m, ldI (P d x m) 7 0 (nI q) = some ((x.2.2.2.1 0).1 0 q) := fun x m => lp_0 d x m 0 (by omega) q (by omega)
    have r1 : ∀ x m, rdR (P d x m) 6 2 1 = some 8 := fun x m => rp_1 d x m 0 (by omega)
    have l1 : ∀ x m, ldI (P d x m) 8 0 (nI q) = some ((x.2.2.2.1 0).1 1 q) := fun x m => lp_1 d x m 0 (by omega) q (by omega)
    have s1 : ∀ x m v, stI (P d x m) 8 0 (nI q) v = some (P d (xS x 0 (sA (x.2.2.2.1 0) 1 q v)) m) := fun x m v => sp_1 d x m 0 (by omega) q v (by omega)
    have mc : ∀ x', callR (k + 999) n_X4_canLight [.ref 153, .int (nI q)] (P d x' m) = some (.inl (some (.int (bI (decide (¬ A.1 0 q = 0 ∧ ¬ 0 < A.1 1 q))))), P d x' m) := fun x' => by
      simp (disch := omega) only [e_X4_canLight_0, e_X4_canLight_8, e_X4_canLight_16, e_X4_canLight_20, e_X4_canLight_21, c_X4_canLight, cond_true, cond_false, Option.bind_some, rI_s, rL_s, rR_s, rV_s, cnd_d, cnd_ne, cnd_eq, bI_d0, bI_t0, ite_not, decide_eq_false_iff_not, decide_eq_true_eq, lg_cmp_ge, lg_cmp_le, lg_cmp_gt, lg_cmp_lt, lg_cmp_eq, okb_1, okb_0, okb_b, eq_self, if_true, if_false, Bool.true_eq_false, Bool.false_eq_true, isO_M, M_worthOf, M_heatOf, a0, a1]
      by_cases c2 : 0 < A.1 0 q
      · have c2' : ¬ A.1 0 q = 0 := by rw [i_ne0 hz0]; exact fun h => h c2
        rw [if_neg (Int32.not_le.mpr c2)]
        by_cases c3 : 0 < A.1 1 q
        · have c3' : ¬ A.1 1 q = 0 := by rw [i_ne0 hz1]; exact fun h => h c3
          rw [if_neg c3']; simp [c3, bI]
        · rw [if_pos (by rw [i_ne0 hz1]; exact c3)]; simp [c2', c3, bI]
      · have c2' : A.1 0 q = 0 := by rw [i_ne0 hz0]; exact c2
        rw [if_pos (Int32.not_lt.mp c2)]; simp [c2', bI]
    by_cases c2 : ¬ A.1 0 q = 0 ∧ ¬ 0 < A.1 1 q
    · obtain ⟨x1, e1, es, eR, hk⟩ := act_keep hP hS (k + 997)
      obtain ⟨m1, u', a', g1, hP1, hS1, em⟩ := hk (k + 998) (xS x1 0 (sA (x1.2.2.2.1 0) 1 q 1))
      refine ⟨A.1 0 q, Z, d, xS x1 0 (sA (x1.2.2.2.1 0) 1 q 1), mA m1 10 (14 + 4 * q + 1) 1, ?_, ?_, Rel_of (RelP_st hP1 (xS_FX _ _ _) (mA_Fr _ _ _ (by omega))) (RelS_set hS1 h6 1 q 1 (Or.inl rfl) hq fun _ => by decide), by omega, by omega⟩
      · simp (disch := omega) only [c_X0_light, e_X0_light_0, e_X0_light_8, e_X0_light_20, e_X0_light_34, cond_true, cond_false, Option.bind_some, rI_s, rL_s, rR_s, rV_s, cnd_d, cnd_ne, cnd_eq, bI_d0, bI_t0, ite_not, decide_eq_false_iff_not, decide_eq_true_eq, lg_cmp_ge, lg_cmp_le, lg_cmp_gt, lg_cmp_lt, lg_cmp_eq, okb_1, okb_0, okb_b, eq_self, if_true, if_false, Bool.true_eq_false, Bool.false_eq_true, isO_X, xh, rx_1, r1, l1, r0, l0, b0, b1, c2.1, Int32.not_lt.mp c2.2, e1, s1, es, xS_s, sA_o]
      · simp (disch := omega) only [c_X4_light, e_X4_light_0, e_X4_light_8, e_X4_light_18, cond_true, cond_false, Option.bind_some, rI_s, rL_s, rR_s, rV_s, cnd_d, cnd_ne, cnd_eq, bI_d0, bI_t0, ite_not, decide_eq_false_iff_not, decide_eq_true_eq, lg_cmp_ge, lg_cmp_le, lg_cmp_gt, lg_cmp_lt, lg_cmp_eq, okb_1, okb_0, okb_b, eq_self, if_true, if_false, Bool.true_eq_false, Bool.false_eq_true, isO_M, mh, mc, M_worthOf, c2, not_false_iff, and_self, g1, em, rm_21, li_14, li_4, pk_mul, nI_add, nI_1, sm_10, mA_n, a0]
    · have mc2 : ∀ x', callR (k + 999) n_X4_canLight [.ref 153, .int (nI q)] (P d x' m) = some (.inl (some (.int (bI false))), P d x' m) := fun x' => by rw [mc, decide_eq_false c2]
      refine OpOK_n hR (-1) ?_ ?_
      · by_cases c3 : A.1 0 q = 0
        · simp (disch := omega) only [c_X0_light, e_X0_light_0, e_X0_light_8, e_X0_light_32, cond_true, cond_false, Option.bind_some, rI_s, rL_s, rR_s, rV_s, cnd_d, cnd_ne, cnd_eq, bI_d0, bI_t0, ite_not, decide_eq_false_iff_not, decide_eq_true_eq, lg_cmp_ge, lg_cmp_le, lg_cmp_gt, lg_cmp_lt, lg_cmp_eq, okb_1, okb_0, okb_b, eq_self, if_true, if_false, Bool.true_eq_false, Bool.false_eq_true, isO_X, xh, rx_1, r0, l0, b0, c3]
        · have c4 : 0 < A.1 1 q := by
            by_cases c4 : 0 < A.1 1 q
            · exact c4
            · exact absurd ⟨c3, c4⟩ c2
          simp (disch := omega) only [c_X0_light, e_X0_light_0, e_X0_light_8, e_X0_light_20, e_X0_light_32, cond_true, cond_false, Option.bind_some, rI_s, rL_s, rR_s, rV_s, cnd_d, cnd_ne, cnd_eq, bI_d0, bI_t0, ite_not, decide_eq_false_iff_not, decide_eq_true_eq, lg_cmp_ge, lg_cmp_le, lg_cmp_gt, lg_cmp_lt, lg_cmp_eq, okb_1, okb_0, okb_b, eq_self, if_true, if_false, Bool.true_eq_false, Bool.false_eq_true, isO_X, xh, rx_1, r0, l0, b0, c3, r1, l1, b1, Int32.not_le.mpr c4]
      · simp (disch := omega) only [c_X4_light, e_X4_light_0, e_X4_light_8, e_X4_light_16, cond_true, cond_false, Option.bind_some, rI_s, rL_s, rR_s, rV_s, cnd_d, cnd_ne, cnd_eq, bI_d0, bI_t0, ite_not, decide_eq_false_iff_not, decide_eq_true_eq, lg_cmp_ge, lg_cmp_le, lg_cmp_gt, lg_cmp_lt, lg_cmp_eq, okb_1, okb_0, okb_b, eq_self, if_true, if_false, Bool.true_eq_false, Bool.false_eq_true, isO_M, mh, mc2]
theorem WA0_send {C : AC} {A : AA} {q : Nat} (hq : q < C.1) (h : WA0 C A) : WA0 C (sendA C A (some q)) := by
  unfold sendA
  by_cases e : q + 1 = A.2.2 0
  · simp only [if_pos e]; exact h
  · simp only [if_neg e]
    obtain ⟨w1, w2, w3, w4, w5, w6⟩ := h
    refine ⟨w1, ?_, ?_, fun _ => ?_, w5, w6⟩
    · exact w2
    · exact w3
    · show 1 ≤ q + 1 ∧ q + 1 ≤ C.1
      omega
theorem op_send (g : Int32) : OpOK n_X0_send n_X4_send [.int g] := by
  intro Z d x m hR k
  obtain ⟨C, A, n, u, a, t, nr, F, fo, hP, hS⟩ := Rel_to hR
  have hV := hP.2.1
  obtain ⟨hZ, -, hN, hPR, hT, hRR, hF, hD, hBr, hI⟩ := id hP
  have hvp := (hV.2.1 d (Ext_refl Z d)).1
  have h6 := hV.1.1.2
  have xh := X_isHouse (k + 996) d x m C (hvp.1 x m) h6 g
  have mh : ∀ x, _ := fun x => M_isHouse (k + 998) d x m C.1 h6 hV.1.1.1 g
  cases c1 : hB C.1 g with
  | false =>
    rw [c1] at xh mh
    refine OpOK_n hR (-1) ?_ ?_
    · simp (disch := omega) only [c_X0_send, e_X0_send_0, e_X0_send_43, cond_true, cond_false, Option.bind_some, rI_s, rL_s, rR_s, rV_s, cnd_d, cnd_ne, cnd_eq, bI_d0, bI_t0, ite_not, decide_eq_false_iff_not, decide_eq_true_eq, lg_cmp_ge, lg_cmp_le, lg_cmp_gt, lg_cmp_lt, lg_cmp_eq, okb_1, okb_0, okb_b, eq_self, if_true, if_false, Bool.true_eq_false, Bool.false_eq_true, isO_X, xh]
    · simp (disch := omega) only [c_X4_send, e_X4_send_0, e_X4_send_32, cond_true, cond_false, Option.bind_some, rI_s, rL_s, rR_s, rV_s, cnd_d, cnd_ne, cnd_eq, bI_d0, bI_t0, ite_not, decide_eq_false_iff_not, decide_eq_true_eq, lg_cmp_ge, lg_cmp_le, lg_cmp_gt, lg_cmp_lt, lg_cmp_eq, okb_1, okb_0, okb_b, eq_self, if_true, if_false, Bool.true_eq_false, Bool.false_eq_true, isO_M, mh]
  | true =>
    obtain ⟨q, hq, rfl⟩ := hB_of (by omega) c1
    rw [c1] at xh mh
    have hpl := hS.2.2.2.2.1
    have xa : callR (k + 999) n_X2_isAway [.ref 6] (P d x m) = _ := X_isAway0 (k + 998) d x m 0 (by omega) C A hS.2.1
    have ma : ∀ x', callR (k + 999) n_X4_isOnItsWay [.ref 153] (P d x' m) = some (.inl (some (.int (bI (decide (0 < A.2.1 0))))), P d x' m) := fun x' => by
      rw [M_isOnItsWay (k + 998) d x' m, hS.1.2.1.1]
    have r6 : rdI (P d x m) 6 2 6 = some (nI (A.2.2 0)) := by rw [← hS.2.1.2.2.2.1]; exact rp_6 d x m 0 (by omega)
    have hC := Rel_XC hV hRR hF hBr.1
    have xr : callR (k + 999) n_X0_isReached [.ref 0, .ref 6, .int (nI q)] (P d x m) = _ := X_isReached (k + 997) d x m 0 (by omega) (CW C fo F none) A hpl hC (Rel_XA hS.2.1) q (by omega)
    have hfa : m.2.1 10 (44 + 7 * A.2.2 0 + (q + 1)) = C.2.1 (A.2.2 0) (q + 1) := hV.1.2.1 _ _ (by omega) (by omega)
    have hs1 : m.2.1 10 0 = 1 := by
      rcases hV.2.2.1 with h | h
      · exact h.1
      · omega
    have hcl := hV.2.2.2.2 (A.2.2 0) (q + 1) (by omega) (by omega) hs1
    by_cases c2 : 0 < A.2.1 0
    · refine OpOK_n hR (-1) ?_ ?_
      · simp (disch := omega) only [c_X0_send, e_X0_send_0, e_X0_send_8, e_X0_send_43, cond_true, cond_false, Option.bind_some, rI_s, rL_s, rR_s, rV_s, cnd_d, cnd_ne, cnd_eq, bI_d0, bI_t0, ite_not, decide_eq_false_iff_not, decide_eq_true_eq, lg_cmp_ge, lg_cmp_le, lg_cmp_gt, lg_cmp_lt, lg_cmp_eq, okb_1, okb_0, okb_b, eq_self, if_true, if_false, Bool.true_eq_false, Bool.false_eq_true, isO_X, xh, rx_1, xa, c2]
      · simp (disch := omega) only [c_X4_send, e_X4_send_0, e_X4_send_8, e_X4_send_32, cond_true, cond_false, Option.bind_some, rI_s, rL_s, rR_s, rV_s, cnd_d, cnd_ne, cnd_eq, bI_d0, bI_t0, ite_not, decide_eq_false_iff_not, decide_eq_true_eq, lg_cmp_ge, lg_cmp_le, lg_cmp_gt, lg_cmp_lt, lg_cmp_eq, okb_1, okb_0, okb_b, eq_self, if_true, if_false, Bool.true_eq_false, Bool.false_eq_true, isO_M, mh, ma, c2]
    · by_cases c3 : 0 < C.2.1 (A.2.2 0) (q + 1)
      · have hne : ¬ q + 1 = A.2.2 0 := by
          rcases hcl with h | h
          · rw [h.2] at c3; exact absurd c3 (by decide)
          · exact fun e => h.1 e.symm
        have hr : rA (CW C fo F none) A q = true := decide_eq_true (Int32.le_of_lt c3)
        rw [hr] at xr
        obtain ⟨x1, e1, es, eR, hk⟩ := act_keep hP hS (k + 997)
        have hX1 : VX C A (x1.2.2.2.1 0) := by rw [es]; exact hS.2.1
        obtain ⟨s2, e2, v2, -⟩ := X_sends (k + 997) (P d x1 m) 6 (x1.2.2.2.2.1 0) (x1.2.2.2.1 0) (P_len d x1 m 0 (by omega)) C A (by rw [eR]; exact VP_s hvp x1 m 0 (by omega)) hpl h6 hX1 q hq hr
        have eg : sput (P d x1 m) 6 (x1.2.2.2.1 0) = P d x1 m := P_g d x1 m 0 (by omega)
        have ep : sput (P d x1 m) 6 s2 = P d (xS x1 0 s2) m := P_s d x1 m 0 (by omega) s2
        rw [eg, ep] at e2
        obtain ⟨m1, u', a', g1, hP1, hS1, em⟩ := hk (k + 998) (xS x1 0 s2)
        obtain ⟨hZ1, hV1, hN1, hPR1, hT1, hRR1, hF1, hD1, hBr1, hI1⟩ := id hP1
        obtain ⟨m2, g2, fr2, w2⟩ := VA_send (Rel_VC hV1.1 hRR1 hF1 hBr1.2.1) (Rel_VA (fo := fo) (F := F) hS1.1 hBr1.2.2) hpl (some q) (fun h e => by cases e; exact hq) (k + 997) d (xS x1 0 s2)
        have hP2 := RelP_st hP1 (xS_FX x1 0 s2) fr2
        have hS2 : RelS (xS x1 0 s2) m2 C (sendA C A (some q)) := ⟨VA_to w2 (RelP_b hP2) (fun h hh => by rw [fr2.2.1 _ (by omega), send_arr]; exact hS1.1.2.2.2.2.2 h hh), by rw [xS_s]; exact v2, WA0_send hq hS.2.2⟩
        have r8 : rdI (P d (xS x1 0 s2) m) 6 2 8 = some ((sendA C A (some q)).2.1 0) := by rw [← v2.2.2.1.1]; have := rp_8 d (xS x1 0 s2) m 0 (by omega); rw [xS_s] at this; exact this
        refine ⟨(sendA C A (some q)).2.1 0, Z, d, xS x1 0 s2, m2, ?_, ?_, Rel_of hP2 hS2, by omega, by omega⟩
        · simp (disch := omega) only [c_X0_send, e_X0_send_0, e_X0_send_8, e_X0_send_18, e_X0_send_31, e_X0_send_45, cond_true, cond_false, Option.bind_some, rI_s, rL_s, rR_s, rV_s, cnd_d, cnd_ne, cnd_eq, bI_d0, bI_t0, ite_not, decide_eq_false_iff_not, decide_eq_true_eq, lg_cmp_ge, lg_cmp_le, lg_cmp_gt, lg_cmp_lt, lg_cmp_eq, okb_1, okb_0, okb_b, eq_self, if_true, if_false, Bool.true_eq_false, Bool.false_eq_true, isO_X, xh, rx_1, rx_0, xa, c2, r6, nI_1, nI_eqP, hne, xr, e1, e2, r8]
        · simp (disch := omega) only [c_X4_send, e_X4_send_0, e_X4_send_8, e_X4_send_15, e_X4_send_34, cond_true, cond_false, Option.bind_some, rI_s, rL_s, rR_s, rV_s, cnd_d, cnd_ne, cnd_eq, bI_d0, bI_t0, ite_not, decide_eq_false_iff_not, decide_eq_true_eq, lg_cmp_ge, lg_cmp_le, lg_cmp_gt, lg_cmp_lt, lg_cmp_eq, okb_1, okb_0, okb_b, eq_self, if_true, if_false, Bool.true_eq_false, Bool.false_eq_true, isO_M, mh, ma, c2, rm_21, li_11, li_13, lm_10, hS.1.2.2.1, nI_1, M_farOf, hfa, c3, g1, g2, show n_X4_sends = n_X4_sends from rfl, hS2.1.2.1.1]
          have g2' : callR (k + 999) n_X4_sends [.ref 153, .int (nI q)] (P d (xS x1 0 s2) m1) = _ := g2
          simp (disch := omega) only [g2', cond_true, cond_false, Option.bind_some, rI_s, rL_s, rR_s, rV_s, cnd_d, cnd_ne, cnd_eq, bI_d0, bI_t0, ite_not, decide_eq_false_iff_not, decide_eq_true_eq, lg_cmp_ge, lg_cmp_le, lg_cmp_gt, lg_cmp_lt, lg_cmp_eq, okb_1, okb_0, okb_b, eq_self, if_true, if_false, Bool.true_eq_false, Bool.false_eq_true, rm_21, lm_10, hS2.1.2.1.1]
      · refine OpOK_n hR (-1) ?_ ?_
        · by_cases e : q + 1 = A.2.2 0
          · simp (disch := omega) only [c_X0_send, e_X0_send_0, e_X0_send_8, e_X0_send_18, e_X0_send_43, cond_true, cond_false, Option.bind_some, rI_s, rL_s, rR_s, rV_s, cnd_d, cnd_ne, cnd_eq, bI_d0, bI_t0, ite_not, decide_eq_false_iff_not, decide_eq_true_eq, lg_cmp_ge, lg_cmp_le, lg_cmp_gt, lg_cmp_lt, lg_cmp_eq, okb_1, okb_0, okb_b, eq_self, if_true, if_false, Bool.true_eq_false, Bool.false_eq_true, isO_X, xh, rx_1, xa, c2, r6, nI_1, nI_eqP, e]
          · have hr : rA (CW C fo F none) A q = false := by
              rcases hcl with h | h
              · exact absurd h.1.symm e
              · have h2 := h.2.resolve_right c3
                unfold rA
                show decide (0 ≤ C.2.1 (A.2.2 0) (q + 1)) = false
                rw [h2]; decide
            rw [hr] at xr
            simp (disch := omega) only [c_X0_send, e_X0_send_0, e_X0_send_8, e_X0_send_18, e_X0_send_31, e_X0_send_43, cond_true, cond_false, Option.bind_some, rI_s, rL_s, rR_s, rV_s, cnd_d, cnd_ne, cnd_eq, bI_d0, bI_t0, ite_not, decide_eq_false_iff_not, decide_eq_true_eq, lg_cmp_ge, lg_cmp_le, lg_cmp_gt, lg_cmp_lt, lg_cmp_eq, okb_1, okb_0, okb_b, eq_self, if_true, if_false, Bool.true_eq_false, Bool.false_eq_true, isO_X, xh, rx_1, xa, c2, r6, nI_1, nI_eqP, e, xr]
        · simp (disch := omega) only [c_X4_send, e_X4_send_0, e_X4_send_8, e_X4_send_15, e_X4_send_32, cond_true, cond_false, Option.bind_some, rI_s, rL_s, rR_s, rV_s, cnd_d, cnd_ne, cnd_eq, bI_d0, bI_t0, ite_not, decide_eq_false_iff_not, decide_eq_true_eq, lg_cmp_ge, lg_cmp_le, lg_cmp_gt, lg_cmp_lt, lg_cmp_eq, okb_1, okb_0, okb_b, eq_self, if_true, if_false, Bool.true_eq_false, Bool.false_eq_true, isO_M, mh, ma, c2, rm_21, li_11, lm_10, hS.1.2.2.1, nI_1, M_farOf, hfa, c3]
