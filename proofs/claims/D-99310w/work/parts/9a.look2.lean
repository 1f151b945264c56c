theorem M_alikeAt (k : Nat) (d : AH) (x : XS) (m : MS) (nr hr : Nat) (hnr : nr ≤ 6) (hh : hr ≤ 60) (h2 : m.1 2 = nI nr) (ft : Nat → Bool) (c : Nat → Int32) (hb : ∀ j, j < nr + 1 → m.2.1 16 j = bI (ft j)) (hc : ∀ j, j < nr + 1 → m.2.1 17 (61 * j + hr) = c j) : callR (k + 2) n_X4_alikeAt [.ref 153, .int (nI hr)] (P d x m) = some (.inl (some (.int (nI (mM ft c (fun v => cM ft c v (nr + 1)) (nr + 1))))), P d x m) := by
  have lf : ∀ j, j < nr + 1 → ldI (P d x m) 169 3 (nI j) = some (bI (ft j)) := fun j hj => by rw [← hb j hj]; exact lm_16 d x m j (by omega)
  have lc : ∀ j, j < nr + 1 → ldI (P d x m) 170 0 (nI (61 * j + hr)) = some (c j) := fun j hj => by rw [← hc j hj]; exact lm_17 d x m _ (by omega)
  have inner : ∀ (a : Nat) (mo : Int32), a < nr + 1 → ft a = true → ∀ r j : Nat, j + r = nr + 1 → evR T_X4_alikeAt (callR (k + 1)) 18 ([(0, .ref 153), (1, .int (nI hr)), (2, .int mo), (3, .int (nI a)), (4, .int (nI (cM ft c (c a) j))), (5, .int (nI j))], [], P d x m) = evR T_X4_alikeAt (callR (k + 1)) 86 ([(0, .ref 153), (1, .int (nI hr)), (2, .int mo), (3, .int (nI a)), (4, .int (nI (cM ft c (c a) (nr + 1))))], [], P d x m) := by
    intro a mo ha hfa r
    have la := lf a ha
    rw [hfa] at la
    induction r with
    | zero =>
      intro j hj
      have e : j = nr + 1 := by omega
      subst e
      rw [e_X4_alikeAt_18]
      simp (disch := omega) only [cond_true, cond_false, Option.bind_some, rI_s, rL_s, rR_s, rV_s, cnd_d, cnd_ne, cnd_eq, bI_d0, bI_t0, ite_not, decide_eq_false_iff_not, decide_eq_true_eq, lg_cmp_ge, lg_cmp_le, lg_cmp_gt, lg_cmp_lt, lg_cmp_eq, okb_1, okb_0, okb_b, eq_self, if_true, if_false, Bool.true_eq_false, Bool.false_eq_true, rm_2, h2, nI_ltP, show nr < nr + 1 by omega]
    | succ r ih =>
      intro j hj
      have e1 := ih (j + 1) (by omega)
      have hl := cM_le ft c (c a) j
      have hcm : cM ft c (c a) (j + 1) = cM ft c (c a) j + (if ft j = true ∧ c j = c a then 1 else 0) := rfl
      have lj := lf j (by omega)
      have lcj := lc j (by omega)
      have lca := lc a ha
      rw [hcm] at e1
      rw [← e1, e_X4_alikeAt_18]
      cases hfj : ft j with
      | false =>
        rw [hfj] at lj
        rw [if_neg (fun q => absurd q.1 (by decide))]
        simp (disch := omega) only [e_X4_alikeAt_27, e_X4_alikeAt_36, e_X4_alikeAt_76, e_X4_alikeAt_77, cond_true, cond_false, Option.bind_some, rI_s, rL_s, rR_s, rV_s, cnd_d, cnd_ne, cnd_eq, bI_d0, bI_t0, ite_not, decide_eq_false_iff_not, decide_eq_true_eq, lg_cmp_ge, lg_cmp_le, lg_cmp_gt, lg_cmp_lt, lg_cmp_eq, okb_1, okb_0, okb_b, eq_self, if_true, if_false, Bool.true_eq_false, Bool.false_eq_true, rm_2, h2, nI_ltP, if_neg (show ¬ nr < j by omega), rm_36, la, lj, nI_1, Int32.add_zero, Nat.add_zero]
      | true =>
        rw [hfj] at lj
        by_cases z : c j = c a
        · rw [if_pos ⟨rfl, z⟩]
          simp (disch := omega) only [e_X4_alikeAt_27, e_X4_alikeAt_36, e_X4_alikeAt_48, e_X4_alikeAt_72, e_X4_alikeAt_77, cond_true, cond_false, Option.bind_some, rI_s, rL_s, rR_s, rV_s, cnd_d, cnd_ne, cnd_eq, bI_d0, bI_t0, ite_not, decide_eq_false_iff_not, decide_eq_true_eq, lg_cmp_ge, lg_cmp_le, lg_cmp_gt, lg_cmp_lt, lg_cmp_eq, okb_1, okb_0, okb_b, eq_self, if_true, if_false, Bool.true_eq_false, Bool.false_eq_true, rm_2, h2, nI_ltP, if_neg (show ¬ nr < j by omega), rm_36, rm_37, la, lj, M_spot, lca, lcj, z, nI_1]
        · have z' : ¬ c a = c j := fun q => z q.symm
          rw [if_neg (fun q => z q.2)]
          simp (disch := omega) only [e_X4_alikeAt_27, e_X4_alikeAt_36, e_X4_alikeAt_48, e_X4_alikeAt_76, e_X4_alikeAt_77, cond_true, cond_false, Option.bind_some, rI_s, rL_s, rR_s, rV_s, cnd_d, cnd_ne, cnd_eq, bI_d0, bI_t0, ite_not, decide_eq_false_iff_not, decide_eq_true_eq, lg_cmp_ge, lg_cmp_le, lg_cmp_gt, lg_cmp_lt, lg_cmp_eq, okb_1, okb_0, okb_b, eq_self, if_true, if_false, Bool.true_eq_false, Bool.false_eq_true, rm_2, h2, nI_ltP, if_neg (show ¬ nr < j by omega), rm_36, rm_37, la, lj, M_spot, lca, lcj, z', nI_1, Int32.add_zero, Nat.add_zero]
  have outer : ∀ r a : Nat, a + r = nr + 1 → evR T_X4_alikeAt (callR (k + 1)) 4 ([(0, .ref 153), (1, .int (nI hr)), (2, .int (nI (mM ft c (fun v => cM ft c v (nr + 1)) a))), (3, .int (nI a))], [], P d x m) = some (.inl (some (.int (nI (mM ft c (fun v => cM ft c v (nr + 1)) (nr + 1))))), P d x m) := by
    intro r
    induction r with
    | zero =>
      intro a ha
      have e : a = nr + 1 := by omega
      subst e
      rw [e_X4_alikeAt_4]
      simp (disch := omega) only [e_X4_alikeAt_105, cond_true, cond_false, Option.bind_some, rI_s, rL_s, rR_s, rV_s, cnd_d, cnd_ne, cnd_eq, bI_d0, bI_t0, ite_not, decide_eq_false_iff_not, decide_eq_true_eq, lg_cmp_ge, lg_cmp_le, lg_cmp_gt, lg_cmp_lt, lg_cmp_eq, okb_1, okb_0, okb_b, eq_self, if_true, if_false, Bool.true_eq_false, Bool.false_eq_true, rm_2, h2, nI_ltP, show nr < nr + 1 by omega]
    | succ r ih =>
      intro a ha
      have e1 := ih (a + 1) (by omega)
      have hm : mM ft c (fun v => cM ft c v (nr + 1)) (a + 1) = if ft a = true then max (mM ft c (fun v => cM ft c v (nr + 1)) a) (cM ft c (c a) (nr + 1)) else mM ft c (fun v => cM ft c v (nr + 1)) a := rfl
      have hl1 : mM ft c (fun v => cM ft c v (nr + 1)) a ≤ nr + 1 := by
        generalize a = j
        induction j with
        | zero => exact Nat.zero_le _
        | succ j ih =>
          have h1 := cM_le ft c (c j) (nr + 1)
          show (if ft j = true then max (mM ft c (fun v => cM ft c v (nr + 1)) j) (cM ft c (c j) (nr + 1)) else mM ft c (fun v => cM ft c v (nr + 1)) j) ≤ nr + 1
          split <;> omega
      have hl2 := cM_le ft c (c a) (nr + 1)
      rw [hm] at e1
      rw [← e1, e_X4_alikeAt_4]
      generalize hM : mM ft c (fun v => cM ft c v (nr + 1)) a = M at hl1 ⊢
      cases hfa : ft a with
      | false =>
        have la := lf a (by omega)
        rw [hfa] at la
        rw [if_neg (by decide)]
        simp (disch := omega) only [e_X4_alikeAt_12, e_X4_alikeAt_18, e_X4_alikeAt_27, e_X4_alikeAt_86, e_X4_alikeAt_97, e_X4_alikeAt_98, cond_true, cond_false, Option.bind_some, rI_s, rL_s, rR_s, rV_s, cnd_d, cnd_ne, cnd_eq, bI_d0, bI_t0, ite_not, decide_eq_false_iff_not, decide_eq_true_eq, lg_cmp_ge, lg_cmp_le, lg_cmp_gt, lg_cmp_lt, lg_cmp_eq, okb_1, okb_0, okb_b, eq_self, if_true, if_false, Bool.true_eq_false, Bool.false_eq_true, rm_2, h2, nI_ltP, if_neg (show ¬ nr < a by omega), show ¬ nI nr < (0 : Int32) from nI_pos (by omega), rm_36, la, nI_nn, nI_1]
      | true =>
        have e2 := inner a (nI M) (by omega) hfa (nr + 1) 0 (by omega)
        rw [show cM ft c (c a) 0 = 0 from rfl, nI_0] at e2
        rw [if_pos rfl]
        generalize cM ft c (c a) (nr + 1) = N at hl2 e2 ⊢
        by_cases z : N ≤ M
        · rw [Nat.max_eq_left z]
          simp (disch := omega) only [e_X4_alikeAt_12, e2, e_X4_alikeAt_86, e_X4_alikeAt_97, e_X4_alikeAt_98, cond_true, cond_false, Option.bind_some, rI_s, rL_s, rR_s, rV_s, cnd_d, cnd_ne, cnd_eq, bI_d0, bI_t0, ite_not, decide_eq_false_iff_not, decide_eq_true_eq, lg_cmp_ge, lg_cmp_le, lg_cmp_gt, lg_cmp_lt, lg_cmp_eq, okb_1, okb_0, okb_b, eq_self, if_true, if_false, Bool.true_eq_false, Bool.false_eq_true, rm_2, h2, nI_ltP, if_neg (show ¬ nr < a by omega), nI_leP, z, nI_1]
        · rw [Nat.max_eq_right (by omega)]
          simp (disch := omega) only [e_X4_alikeAt_12, e2, e_X4_alikeAt_86, e_X4_alikeAt_92, e_X4_alikeAt_98, cond_true, cond_false, Option.bind_some, rI_s, rL_s, rR_s, rV_s, cnd_d, cnd_ne, cnd_eq, bI_d0, bI_t0, ite_not, decide_eq_false_iff_not, decide_eq_true_eq, lg_cmp_ge, lg_cmp_le, lg_cmp_gt, lg_cmp_lt, lg_cmp_eq, okb_1, okb_0, okb_b, eq_self, if_true, if_false, Bool.true_eq_false, Bool.false_eq_true, rm_2, h2, nI_ltP, if_neg (show ¬ nr < a by omega), nI_leP, z, nI_1]
  have := outer (nr + 1) 0 (by omega)
  rw [show mM ft c (fun v => cM ft c v (nr + 1)) 0 = 0 from rfl, nI_0] at this
  simp (disch := omega) only [c_X4_alikeAt, e_X4_alikeAt_0, cond_true, cond_false, Option.bind_some, rI_s, rL_s, rR_s, rV_s, cnd_d, cnd_ne, cnd_eq, bI_d0, bI_t0, ite_not, decide_eq_false_iff_not, decide_eq_true_eq, lg_cmp_ge, lg_cmp_le, lg_cmp_gt, lg_cmp_lt, lg_cmp_eq, okb_1, okb_0, okb_b, eq_self, if_true, if_false, Bool.true_eq_false, Bool.false_eq_true, isO_M, this]
theorem X_showL (k : Nat) (d : AH) (m : MS) (w r0 : Int32) (n : Nat) (hn : n ≤ 6) (x0 : XS) : ∀ (r i : Nat) (x : XS), i + r = 61 → SimX x0 x → x.2.1 150 = x0.2.1 150 → (∀ j, j < i → x.2.1 151 (61 * n + j) = x0.2.1 150 j) → (∀ j, j < 61 * n → x.2.1 151 j = x0.2.1 151 j) → ∃ x', evR T_X0_look (callR k) 48 ([(0, .ref 0), (1, .int w), (2, .int (nI n)), (3, .int r0), (4, .int (nI i))], [], P d x m) = evR T_X0_look (callR k) 80 ([(0, .ref 0), (1, .int w), (2, .int (nI n)), (3, .int r0)], [], P d x' m) ∧ SimX x0 x' ∧ (∀ j, j < 61 → x'.2.1 151 (61 * n + j) = x0.2.1 150 j) ∧ (∀ j, j < 61 * n → x'.2.1 151 j = x0.2.1 151 j)
  | 0, i, x, hi, hs, h0, h1, h2 => by
    have e : i = 61 := by omega
    subst e
    refine ⟨x, ?_, hs, h1, h2⟩
    rw [e_X0_look_48]
    simp (disch := omega) only [cond_true, cond_false, Option.bind_some, rI_s, rL_s, rR_s, rV_s, cnd_d, cnd_ne, cnd_eq, bI_d0, bI_t0, ite_not, decide_eq_false_iff_not, decide_eq_true_eq, lg_cmp_ge, lg_cmp_le, lg_cmp_gt, lg_cmp_lt, lg_cmp_eq, okb_1, okb_0, okb_b, eq_self, if_true, if_false, Bool.true_eq_false, Bool.false_eq_true, show ((60 : Int32) < nI 61) = True from eq_true (by decide)]
  | r + 1, i, x, hi, hs, h0, h1, h2 => by
    have hlt : ((60 : Int32) < nI i) = False := eq_false (by rw [show (60 : Int32) = nI 60 from rfl, nI_ltP (by omega) (by omega)]; omega)
    obtain ⟨x', e', s', a', b'⟩ := X_showL k d m w r0 n hn x0 r (i + 1) (xA x 151 (61 * n + i) (x.2.1 150 i)) (by omega) (SimX_trans hs (xA_Sim _ _ _ _ (by omega))) (by rw [xA_o _ _ _ _ _ (by omega)]; exact h0) (fun j hj => by
      by_cases z : j = i
      · subst z; rw [xA_s, h0]
      · rw [xA_n _ _ _ _ _ (by omega)]; exact h1 j (by omega)) (fun j hj => by rw [xA_n _ _ _ _ _ (by omega)]; exact h2 j hj)
    refine ⟨x', ?_, s', a', b'⟩
    rw [← e', e_X0_look_48]
    simp (disch := omega) only [e_X0_look_55, cond_true, cond_false, Option.bind_some, rI_s, rL_s, rR_s, rV_s, cnd_d, cnd_ne, cnd_eq, bI_d0, bI_t0, ite_not, decide_eq_false_iff_not, decide_eq_true_eq, lg_cmp_ge, lg_cmp_le, lg_cmp_gt, lg_cmp_lt, lg_cmp_eq, okb_1, okb_0, okb_b, eq_self, if_true, if_false, Bool.true_eq_false, Bool.false_eq_true, hlt, rx_25, rx_26, lx_150, li_61, pk_mul, nI_add, sx_151, nI_1]
theorem X_lookL (k : Nat) (d : AH) (m : MS) (C : AC) (h6 : C.1 ≤ 6) (F : Nat → (Nat → Int64) → Int64) (sd : Nat → Int32) (nr : Nat) (hnr : nr ≤ 6) (x0 : XS) (h102 : x0.1 102 = nI nr) (hC : ∀ r, r ≤ nr → XC d (CW C (pr r) F none) (xF x0 4 (oI (pr r)))) (hT : Told d (x0.2.2.2.2.1 0) C sd) (h1 : 0 ≤ sd 1) (wf : Nat → Nat) (q : Nat → Int32) (n : Nat) (hn : n ≤ 10) (h10 : x0.1 10 = nI n) (hw : ∀ i, i < n → wf i ≤ 60 ∧ x0.2.1 22 i = nI (wf i)) (hq : ∀ i, i < n → x0.2.1 23 i = q i) (w : Int32) (ft : Nat → Bool) (hft : ∀ r, ft r = ntB (crs (CW C (pr r) F none) sd) wf q n 0) : ∀ (r i c : Nat) (x : XS), i + r = nr + 1 → c ≤ i → SimX x0 x → (∀ z, z < 61 → Cmp ft (fun r => nI (crs (CW C (pr r) F none) sd z)) i (fun j => x.2.1 151 (61 * j + z)) c) → ∃ x' c', evR T_X0_look (callR (k + 205)) 23 ([(0, .ref 0), (1, .int w), (2, .int (nI c)), (3, .int (oI (pr i)))], [], P d x m) = evR T_X0_look (callR (k + 205)) 89 ([(0, .ref 0), (1, .int w), (2, .int (nI c'))], [], P d x' m) ∧ c' ≤ 7 ∧ SimX x0 x' ∧ (∀ z, z < 61 → Cmp ft (fun r => nI (crs (CW C (pr r) F none) sd z)) (nr + 1) (fun j => x'.2.1 151 (61 * j + z)) c')
  | 0, i, c, x, hi, hci, hs, hc => by
    have e : i = nr + 1 := by omega
    subst e
    have hsz : callR (k + 205) n_J2_size [.ref 18] (P d x m) = some (.inl (some (.int (nI nr))), P d x m) := by rw [X_size (k + 204) d x m, hs.1 102 (by omega) (by omega) (by omega) (by omega), h102]
    refine ⟨x, c, ?_, by omega, hs, hc⟩
    rw [e_X0_look_23]
    simp (disch := omega) only [cond_true, cond_false, Option.bind_some, rI_s, rL_s, rR_s, rV_s, cnd_d, cnd_ne, cnd_eq, bI_d0, bI_t0, ite_not, decide_eq_false_iff_not, decide_eq_true_eq, lg_cmp_ge, lg_cmp_le, lg_cmp_gt, lg_cmp_lt, lg_cmp_eq, okb_1, okb_0, okb_b, eq_self, if_true, if_false, Bool.true_eq_false, Bool.false_eq_true, rx_3, hsz, pr_le, show nr + 1 ≤ nr + 1 from Nat.le_refl _]
  | r + 1, i, c, x, hi, hci, hs, hc => by
    have hsz : callR (k + 205) n_J2_size [.ref 18] (P d x m) = some (.inl (some (.int (nI nr))), P d x m) := by rw [X_size (k + 204) d x m, hs.1 102 (by omega) (by omega) (by omega) (by omega), h102]
    obtain ⟨x1, e1, s1, c1, g1⟩ := X_couldRule k d m C h6 (pr i) F sd x0 x hs (hC i (by omega)) hT h1 wf q n hn h10 hw hq
    rw [← hft] at e1
    have hnl : ¬ nI nr ≤ oI (pr i) := by rw [pr_le hnr (by omega)]; omega
    cases cb : ft i with
    | false =>
      rw [cb] at e1
      obtain ⟨x2, c2, e2, l2, s2, m2⟩ := X_lookL k d m C h6 F sd nr hnr x0 h102 hC hT h1 wf q n hn h10 hw hq w ft hft r (i + 1) c x1 (by omega) (by omega) s1 (fun z hz => Cmp_f (hc z hz) cb fun j hj => by rw [g1])
      refine ⟨x2, c2, ?_, l2, s2, m2⟩
      rw [← e2, e_X0_look_23]
      simp (disch := omega) only [e_X0_look_34, e_X0_look_42, e_X0_look_83, cond_true, cond_false, Option.bind_some, rI_s, rL_s, rR_s, rV_s, cnd_d, cnd_ne, cnd_eq, bI_d0, bI_t0, ite_not, decide_eq_false_iff_not, decide_eq_true_eq, lg_cmp_ge, lg_cmp_le, lg_cmp_gt, lg_cmp_lt, lg_cmp_eq, okb_1, okb_0, okb_b, eq_self, if_true, if_false, Bool.true_eq_false, Bool.false_eq_true, rx_3, hsz, hnl, e1, pr_s]
    | true =>
      rw [cb] at e1
      obtain ⟨x2, e2, s2, a2, b2⟩ := X_showL (k + 205) d m w (oI (pr i)) c (by omega) x1 61 0 x1 (by omega) (SimX_refl _) rfl (fun j hj => absurd hj (by omega)) (fun j _ => rfl)
      obtain ⟨x3, c3, e3, l3, s3, m3⟩ := X_lookL k d m C h6 F sd nr hnr x0 h102 hC hT h1 wf q n hn h10 hw hq w ft hft r (i + 1) (c + 1) x2 (by omega) (by omega) (SimX_trans s1 s2) (fun z hz => Cmp_t (hc z hz) cb (fun j hj => by
        show x2.2.1 151 (61 * j + z) = x.2.1 151 (61 * j + z)
        rw [b2 _ (by omega), g1]) (by
        show x2.2.1 151 (61 * c + z) = _
        rw [a2 z hz, c1 z hz]))
      refine ⟨x3, c3, ?_, l3, s3, m3⟩
      rw [nI_0] at e2
      rw [← e3, e_X0_look_23]
      simp (disch := omega) only [e_X0_look_34, e_X0_look_45, cond_true, cond_false, Option.bind_some, rI_s, rL_s, rR_s, rV_s, cnd_d, cnd_ne, cnd_eq, bI_d0, bI_t0, ite_not, decide_eq_false_iff_not, decide_eq_true_eq, lg_cmp_ge, lg_cmp_le, lg_cmp_gt, lg_cmp_lt, lg_cmp_eq, okb_1, okb_0, okb_b, eq_self, if_true, if_false, Bool.true_eq_false, Bool.false_eq_true, rx_3, hsz, hnl, e1, e2, e_X0_look_80, e_X0_look_83, pr_s, nI_1]
theorem op_look (w : Int32) : AskOK n_X0_look n_X4_look [.int w] := by
  intro Z d x m hR k
  obtain ⟨C, A, n, u, a, t, nr, F, fo, hP, hS⟩ := Rel_to hR
  obtain ⟨hZ, hV, hN, hPR, hT, hRR, hF, hD, hBr, hI⟩ := id hP
  have hvp := (hV.2.1 d (Ext_refl Z d)).1
  have h6 := hV.1.1.2
  have hfl := flag_eq hV
  have xv := X_isValley (k + 998) d x m C (hvp.1 x m)
  have mv : ∀ x, _ := fun x => M_isValley (k + 998) d x m
  rw [hfl] at mv
  by_cases c1 : 0 < C.2.2.2.1
  · cases c2 : inI 0 1 w with
    | true =>
      obtain ⟨hTo, h1, hnr, hCC, wf, hwf⟩ := could_pre (A := A) hP
      have hWb : ∀ r, WA (CW C (pr r) F none) (begA (m.2.1 10)) := fun r => WA_beg x m hTo h1
      obtain ⟨ft, hft⟩ : ∃ ft : Nat → Bool, ∀ r, ft r = ntB (crs (CW C (pr r) F none) (m.2.1 10)) wf (fun i => m.2.1 10 (112 + 2 * i)) n 0 := ⟨_, fun r => rfl⟩
      obtain ⟨x1, c', e1, l1, s1, cm⟩ := X_lookL (k + 794) d m C h6 F (m.2.1 10) nr hnr x hRR.2.1 (fun r hr => (hCC r hr).1) hTo h1 wf (fun i => m.2.1 10 (112 + 2 * i)) n hN.1 hN.2.1 (fun i hi => ⟨(hwf i hi).1, by rw [(hN.2.2.2 i hi).1]; exact (hwf i hi).2⟩) (fun i hi => (hN.2.2.2 i hi).2.1) w ft hft (nr + 1) 0 0 x (by omega) (by omega) (SimX_refl x) (fun z _ => ⟨fun v => rfl, fun H => rfl⟩)
      obtain ⟨m1, g1, k1, he1, r1, b1⟩ := M_fillsFits (k + 991) d x1 C h6 F nr hnr m hRR.2.2.1 (fun r hr => (hCC r hr).2) hBr.2.2 hWb wf (fun i => m.2.1 10 (112 + 2 * i)) n hN.1 hN.2.2.1 hwf (fun i hi => rfl)
      have h2m : m1.1 2 = nI nr := by rw [k1.2.2.2 2 (by omega) (by omega) (by omega) (by omega) (by omega)]; exact hRR.2.2.1
      obtain ⟨al, hal⟩ : ∃ al : Nat → Nat, ∀ z, al z = mM ft (fun r => nI (crs (CW C (pr r) F none) (m.2.1 10) z)) (fun v => cM ft (fun r => nI (crs (CW C (pr r) F none) (m.2.1 10) z)) v (nr + 1)) (nr + 1) := ⟨_, fun z => rfl⟩
      have halX : ∀ z, z < 61 → mX (fun j => x1.2.1 151 (61 * j + z)) (fun v => cX (fun j => x1.2.1 151 (61 * j + z)) v c') c' = al z := fun z hz => by
        rw [hal, (cm z hz).2]
        congr 1
        funext v
        exact (cm z hz).1 v
      have hal7 : ∀ z, z ≤ 60 → al z ≤ 7 := fun z hz => by
        rw [← halX z (by omega)]
        have := mX_le (fun j => x1.2.1 151 (61 * j + z)) (fun v => cX (fun j => x1.2.1 151 (61 * j + z)) v c') c' (fun v => cX_le _ v c') c'
        omega
      have hAM : ∀ j, j ≤ 60 → callR (k + 999) n_X4_alikeAt [.ref 153, .int (nI j)] (P d x1 m1) = some (.inl (some (.int (nI (al j)))), P d x1 m1) := fun j hj => by
        rw [hal]
        exact M_alikeAt (k + 997) d x1 m1 nr j hnr hj h2m ft _ (fun i hi => by rw [hft]; exact b1 i hi) (fun i hi => r1 i hi j (by omega))
      have eM := M_whL (k + 998) d x1 m1 al w hal7 hAM 60 0 (by omega)
      refine ⟨loR w al, x1, ?_, s1, m1, ?_, KM_sim k1 he1⟩
      · have e1' : evR T_X0_look (callR (k + 999)) 23 ([(0, .ref 0), (1, .int w), (2, .int 0), (3, .int (-1))], [], P d x m) = evR T_X0_look (callR (k + 999)) 89 ([(0, .ref 0), (1, .int w), (2, .int (nI c'))], [], P d x1 m) := e1
        by_cases z : c' = 0
        · have h0 : al (whF al 60) = 0 := by
            have hw := whF_le al 60
            rw [← halX _ (by omega), z]
            rfl
          have hz : nI c' = 0 := by rw [z, nI_0]
          unfold loR
          rw [if_pos h0]
          simp (disch := omega) only [c_X0_look, e_X0_look_0, e_X0_look_7, e_X0_look_19, cond_true, cond_false, Option.bind_some, rI_s, rL_s, rR_s, rV_s, cnd_d, cnd_ne, cnd_eq, bI_d0, bI_t0, ite_not, decide_eq_false_iff_not, decide_eq_true_eq, lg_cmp_ge, lg_cmp_le, lg_cmp_gt, lg_cmp_lt, lg_cmp_eq, okb_1, okb_0, okb_b, eq_self, if_true, if_false, Bool.true_eq_false, Bool.false_eq_true, isO_X, xv, c1, X_in, in_0_1, c2, e1', e_X0_look_89, e_X0_look_93, hz]
        · have hz : ¬ nI c' = 0 := by rw [← nI_0, nI_eqP (by omega) (by omega)]; exact z
          have hp : 0 < al (whF al 60) := by
            have hw := whF_le al 60
            rw [← halX _ (by omega)]
            exact mX_pos _ _ (by omega)
          have eX := X_whL (k + 998) d x1 m al c' w hal7 (fun j hj => by
            rw [← halX j (by omega)]
            exact X_mostAlike (k + 997) d x1 m (fun i => x1.2.1 151 (61 * i + j)) j c' l1 hj (fun i hi => rfl)) hp 60 0 (by omega)
          have eX' : evR T_X0_look (callR (k + 999)) 101 ([(0, .ref 0), (1, .int w), (2, .int (nI c')), (3, .int 0), (4, .int 1)], [], P d x1 m) = some (.inl (some (.int (loR w al))), P d x1 m) := eX
          simp (disch := omega) only [c_X0_look, e_X0_look_0, e_X0_look_7, e_X0_look_19, cond_true, cond_false, Option.bind_some, rI_s, rL_s, rR_s, rV_s, cnd_d, cnd_ne, cnd_eq, bI_d0, bI_t0, ite_not, decide_eq_false_iff_not, decide_eq_true_eq, lg_cmp_ge, lg_cmp_le, lg_cmp_gt, lg_cmp_lt, lg_cmp_eq, okb_1, okb_0, okb_b, eq_self, if_true, if_false, Bool.true_eq_false, Bool.false_eq_true, isO_X, xv, c1, X_in, in_0_1, c2, e1', e_X0_look_89, e_X0_look_96, hz, eX']
      · have eM' : evR T_X4_look (callR (k + 999)) 27 ([(0, .ref 153), (1, .int w), (2, .int 0), (3, .int 1)], [], P d x1 m1) = some (.inl (some (.int (loR w al))), P d x1 m1) := eM
        simp (disch := omega) only [c_X4_look, e_X4_look_0, e_X4_look_7, e_X4_look_19, cond_true, cond_false, Option.bind_some, rI_s, rL_s, rR_s, rV_s, cnd_d, cnd_ne, cnd_eq, bI_d0, bI_t0, ite_not, decide_eq_false_iff_not, decide_eq_true_eq, lg_cmp_ge, lg_cmp_le, lg_cmp_gt, lg_cmp_lt, lg_cmp_eq, okb_1, okb_0, okb_b, eq_self, if_true, if_false, Bool.true_eq_false, Bool.false_eq_true, isO_M, mv, c1, M_in, in_0_1, c2, g1, eM']
    | false =>
      refine ask_n (-1) ?_ ?_
      · simp (disch := omega) only [c_X0_look, e_X0_look_0, e_X0_look_7, e_X0_look_17, cond_true, cond_false, Option.bind_some, rI_s, rL_s, rR_s, rV_s, cnd_d, cnd_ne, cnd_eq, bI_d0, bI_t0, ite_not, decide_eq_false_iff_not, decide_eq_true_eq, lg_cmp_ge, lg_cmp_le, lg_cmp_gt, lg_cmp_lt, lg_cmp_eq, okb_1, okb_0, okb_b, eq_self, if_true, if_false, Bool.true_eq_false, Bool.false_eq_true, isO_X, xv, c1, X_in, in_0_1, c2]
      · simp (disch := omega) only [c_X4_look, e_X4_look_0, e_X4_look_7, e_X4_look_17, cond_true, cond_false, Option.bind_some, rI_s, rL_s, rR_s, rV_s, cnd_d, cnd_ne, cnd_eq, bI_d0, bI_t0, ite_not, decide_eq_false_iff_not, decide_eq_true_eq, lg_cmp_ge, lg_cmp_le, lg_cmp_gt, lg_cmp_lt, lg_cmp_eq, okb_1, okb_0, okb_b, eq_self, if_true, if_false, Bool.true_eq_false, Bool.false_eq_true, isO_M, mv, c1, M_in, in_0_1, c2]
  · refine ask_n (-1) ?_ ?_
    · simp (disch := omega) only [c_X0_look, e_X0_look_0, e_X0_look_17, cond_true, cond_false, Option.bind_some, rI_s, rL_s, rR_s, rV_s, cnd_d, cnd_ne, cnd_eq, bI_d0, bI_t0, ite_not, decide_eq_false_iff_not, decide_eq_true_eq, lg_cmp_ge, lg_cmp_le, lg_cmp_gt, lg_cmp_lt, lg_cmp_eq, okb_1, okb_0, okb_b, eq_self, if_true, if_false, Bool.true_eq_false, Bool.false_eq_true, isO_X, xv, c1]
    · simp (disch := omega) only [c_X4_look, e_X4_look_0, e_X4_look_17, cond_true, cond_false, Option.bind_some, rI_s, rL_s, rR_s, rV_s, cnd_d, cnd_ne, cnd_eq, bI_d0, bI_t0, ite_not, decide_eq_false_iff_not, decide_eq_true_eq, lg_cmp_ge, lg_cmp_le, lg_cmp_gt, lg_cmp_lt, lg_cmp_eq, okb_1, okb_0, okb_b, eq_self, if_true, if_false, Bool.true_eq_false, Bool.false_eq_true, isO_M, mv, c1]
