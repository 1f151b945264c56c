theorem act_keep {Z : Nat → Bool} {d : AH} {x : XS} {m : MS} {C : AC} {A : AA} {n u a t nr : Nat} {F : Nat → (Nat → Int64) → Int64} {fo : Option Nat} (hP : RelP Z d x m C n u a t nr F fo) (hS : RelS x m C A) (k : Nat) : ∃ x1, callR (k + 2) n_X0_keeps [.ref 0] (P d x m) = some (.inl none, P d x1 m) ∧ x1.2.2.2.1 0 = x.2.2.2.1 0 ∧ x1.2.2.2.2 = x.2.2.2.2 ∧ ∀ k' x', ∃ m1 u' a', callR (k' + 1) n_X4_keepsAct [.ref 153] (P d x' m) = some (.inl none, P d x' m1) ∧ RelP Z d x1 m1 C n u' a' t nr F fo ∧ RelS x1 m1 C A ∧ m1.2.1 10 = m.2.1 10 := by
  have hPR := hP.2.2.2.1
  obtain ⟨s', e1, q1⟩ := X_keeps k d x m u a hPR.1 hPR.2.1 hPR.2.2.1 hPR.2.2.2.2.1
  refine ⟨_, e1, ?_, rfl, fun k' x' => ?_⟩
  · show va_up x.2.2.2.1 (2 + a) s' 0 = _
    rw [va_up_ne _ _ (by omega)]
  · obtain ⟨m1, g1, km⟩ := M_keepsAct k' d x' m u hPR.1 hPR.2.2.2.1
    obtain ⟨hP1, hS1⟩ := Rel_keep hP hS s' q1 km
    exact ⟨m1, _, _, g1, hP1, hS1, km.2.2.1 10 (by omega)⟩
theorem RelS_set {x : XS} {m : MS} {C : AC} {A : AA} (h : RelS x m C A) (h6 : C.1 ≤ 6) (j q : Nat) (v : Int32) (hj : j = 1 ∨ j = 2) (hq : q < C.1) (hv : j = 1 → 0 ≤ v ∧ v ≤ 9) : RelS (xS x 0 (sA (x.2.2.2.1 0) j q v)) (mA m 10 (14 + 4 * q + j) v) C (va_up A.1 j (va_up (A.1 j) q v), A.2) := by
  obtain ⟨⟨a1, ⟨a13, a10, aw⟩, a11, a12, ag⟩, ⟨b1, bz, b2, b3, b4, b5⟩, ⟨w1, w2, w3, w4, w5, w6⟩⟩ := h
  have up0 : ∀ h, va_up A.1 j (va_up (A.1 j) q v) 0 h = A.1 0 h := fun h => by rw [va_up_ne _ _ (by omega)]
  have up3 : ∀ h, va_up A.1 j (va_up (A.1 j) q v) 3 h = A.1 3 h := fun h => by rw [va_up_ne _ _ (by omega)]
  have upn : ∀ i h, h ≠ q → va_up A.1 j (va_up (A.1 j) q v) i h = A.1 i h := fun i h e => by
    by_cases c : i = j
    · subst c; rw [va_up_self, va_up_ne _ _ e]
    · rw [va_up_ne _ _ c]
  have upo : ∀ i h, i ≠ j → va_up A.1 j (va_up (A.1 j) q v) i h = A.1 i h := fun i h e => by rw [va_up_ne _ _ e]
  have ups : va_up A.1 j (va_up (A.1 j) q v) j q = v := by rw [va_up_self, va_up_self]
  refine ⟨⟨fun h hh => ?_, ⟨?_, ?_, ?_⟩, ?_, fun hx => ?_, ?_, fun h' hh' => ?_⟩, ?_, ⟨fun h hh => ?_, w2, w3, w4, fun h hh => ?_, w6⟩⟩
  · obtain ⟨c0, c1, c2, c3⟩ := a1 h hh
    show _ = va_up A.1 j (va_up (A.1 j) q v) 0 h ∧ _ = va_up A.1 j (va_up (A.1 j) q v) 1 h ∧ _ = va_up A.1 j (va_up (A.1 j) q v) 2 h ∧ _ = va_up A.1 j (va_up (A.1 j) q v) 3 h
    by_cases e : h = q
    · subst e
      rcases hj with rfl | rfl
      · refine ⟨?_, ?_, ?_, ?_⟩
        · rw [mA_n _ _ _ _ (by omega), upo 0 h (by omega), c0]
        · rw [ups, show 15 + 4 * h = 14 + 4 * h + 1 by omega, mA_s]
        · rw [mA_n _ _ _ _ (by omega), upo 2 h (by omega), c2]
        · rw [mA_n _ _ _ _ (by omega), upo 3 h (by omega), c3]
      · refine ⟨?_, ?_, ?_, ?_⟩
        · rw [mA_n _ _ _ _ (by omega), upo 0 h (by omega), c0]
        · rw [mA_n _ _ _ _ (by omega), upo 1 h (by omega), c1]
        · rw [ups, show 16 + 4 * h = 14 + 4 * h + 2 by omega, mA_s]
        · rw [mA_n _ _ _ _ (by omega), upo 3 h (by omega), c3]
    · rw [upn 0 h e, upn 1 h e, upn 2 h e, upn 3 h e, mA_n _ _ _ _ (by omega), mA_n _ _ _ _ (by omega), mA_n _ _ _ _ (by omega), mA_n _ _ _ _ (by omega)]
      exact ⟨c0, c1, c2, c3⟩
  · rw [mA_n _ _ _ _ (by omega)]; exact a13
  · rw [mA_n _ _ _ _ (by omega)]; exact a10
  · rw [mA_n _ _ _ _ (by omega)]; exact aw
  · rw [mA_n _ _ _ _ (by omega)]; exact a11
  · rw [mA_n _ _ _ _ (by omega)]; exact a12 hx
  · show _ = A.2.1 3
    rw [← ag.1]
    exact sumI_c fun i hi => by rw [mA_n _ _ _ _ (by omega), mA_n _ _ _ _ (by omega)]
  · rw [mA_n _ _ _ _ (by omega)]
    show _ = va_up A.1 j (va_up (A.1 j) q v) 0 h' + va_up A.1 j (va_up (A.1 j) q v) 4 h'
    rw [up0, upo 4 h' (by omega)]
    exact ag.2 h' hh'
  · rw [xS_s]
    refine ⟨fun h hh => ?_, fun h hn hh => ?_, b2, b3, b4, ?_⟩
    · obtain ⟨c0, c1, c2, c3⟩ := b1 h hh
      show _ = va_up A.1 j (va_up (A.1 j) q v) 0 h ∧ _ = va_up A.1 j (va_up (A.1 j) q v) 1 h ∧ _ = va_up A.1 j (va_up (A.1 j) q v) 2 h ∧ _ = va_up A.1 j (va_up (A.1 j) q v) 3 h
      have sn : ∀ i, h ≠ q ∨ i ≠ j → (sA (x.2.2.2.1 0) j q v).1 i h = (x.2.2.2.1 0).1 i h := fun i e => by
        by_cases c : i = j
        · subst c; exact sA_n _ _ _ _ _ (by omega)
        · rw [sA_o _ _ _ _ _ c]
      by_cases e : h = q
      · subst e
        rcases hj with rfl | rfl
        · rw [sn 0 (by omega), sA_s, sn 2 (by omega), sn 4 (by omega), ups, upo 0 h (by omega), upo 2 h (by omega), upo 3 h (by omega)]
          exact ⟨c0, rfl, c2, c3⟩
        · rw [sn 0 (by omega), sn 1 (by omega), sA_s, sn 4 (by omega), ups, upo 0 h (by omega), upo 1 h (by omega), upo 3 h (by omega)]
          exact ⟨c0, c1, rfl, c3⟩
      · rw [sn 0 (by omega), sn 1 (by omega), sn 2 (by omega), sn 4 (by omega), upn 0 h e, upn 1 h e, upn 2 h e, upn 3 h e]
        exact ⟨c0, c1, c2, c3⟩
    · have := bz h hn hh
      rw [sA_o _ _ _ _ _ (by omega)]
      refine ⟨this.1, ?_⟩
      rcases hj with rfl | rfl
      · rw [sA_n _ _ _ _ _ (by omega)]; exact this.2
      · rw [sA_o _ _ _ _ _ (by omega)]; exact this.2
    · rw [sA_o _ _ _ _ _ (by omega)]
      refine ⟨b5.1, fun h hh => ?_⟩
      show _ = va_up A.1 j (va_up (A.1 j) q v) 4 h
      rw [upo 4 h (by omega)]
      exact b5.2 h hh
  · show 0 ≤ va_up A.1 j (va_up (A.1 j) q v) 1 h ∧ va_up A.1 j (va_up (A.1 j) q v) 1 h ≤ 9
    by_cases e : h = q
    · subst e
      rcases hj with rfl | rfl
      · rw [ups]; exact hv rfl
      · rw [upo 1 h (by omega)]; exact w1 h hh
    · rw [upn 1 h e]; exact w1 h hh
  · show 0 ≤ va_up A.1 j (va_up (A.1 j) q v) 0 h ∧ va_up A.1 j (va_up (A.1 j) q v) 0 h ≤ 99
    rw [up0]; exact w5 h hh
theorem OpOK_n {nX nM : Nat} {as : List Value} {Z : Nat → Bool} {d : AH} {x : XS} {m : MS} {k : Nat} (hR : Rel Z d x m) (r : Int32) (e1 : callR (k + 1000) nX (.ref 0 :: as) (P d x m) = some (.inl (some (.int r)), P d x m)) (e2 : callR (k + 1000) nM (.ref 153 :: as) (P d x m) = some (.inl (some (.int r)), P d x m)) : ∃ (r : Int32) (Z' : Nat → Bool) (d' : AH) (x' : XS) (m' : MS), callR (k + 1000) nX (.ref 0 :: as) (P d x m) = some (.inl (some (.int r)), P d' x' m) ∧ callR (k + 1000) nM (.ref 153 :: as) (P d' x' m) = some (.inl (some (.int r)), P d' x' m') ∧ Rel Z' d' x' m' ∧ d'.1 ≤ d.1 + 10000 ∧ d'.2.1 ≤ d.2.1 + 80000 := ⟨r, Z, d, x, m, e1, e2, hR, by omega, by omega⟩
theorem op_douse (g : Int32) : OpOK n_X0_douse n_X4_douse [.int g] := by
  intro Z d x m hR k
  obtain ⟨C, A, n, u, a, t, nr, F, fo, hP, hS⟩ := Rel_to hR
  have hV := hP.2.1
  have hvp := (hV.2.1 d (Ext_refl Z d)).1
  have h6 := hV.1.1.2
  have xh := X_isHouse (k + 996) d x m C (hvp.1 x m) h6 g
  have mh : ∀ x, _ := fun x => M_isHouse (k + 998) d x m C.1 h6 hV.1.1.1 g
  cases c1 : hB C.1 g with
  | false =>
    rw [c1] at xh mh
    refine OpOK_n hR (-1) ?_ ?_
    · simp (disch := omega) only [c_X0_douse, e_X0_douse_0, e_X0_douse_20, cond_true, cond_false, Option.bind_some, rI_s, rL_s, rR_s, rV_s, cnd_d, cnd_ne, cnd_eq, bI_d0, bI_t0, ite_not, decide_eq_false_iff_not, decide_eq_true_eq, lg_cmp_ge, lg_cmp_le, lg_cmp_gt, lg_cmp_lt, lg_cmp_eq, okb_1, okb_0, okb_b, eq_self, if_true, if_false, Bool.true_eq_false, Bool.false_eq_true, isO_X, xh]
    · simp (disch := omega) only [c_X4_douse, e_X4_douse_0, e_X4_douse_16, cond_true, cond_false, Option.bind_some, rI_s, rL_s, rR_s, rV_s, cnd_d, cnd_ne, cnd_eq, bI_d0, bI_t0, ite_not, decide_eq_false_iff_not, decide_eq_true_eq, lg_cmp_ge, lg_cmp_le, lg_cmp_gt, lg_cmp_lt, lg_cmp_eq, okb_1, okb_0, okb_b, eq_self, if_true, if_false, Bool.true_eq_false, Bool.false_eq_true, isO_M, mh]
  | true =>
    obtain ⟨q, hq, rfl⟩ := hB_of (by omega) c1
    rw [c1] at xh mh
    obtain ⟨b0, b1, b2, b3⟩ := hS.2.1.1 q hq
    obtain ⟨a0, a1, a2, a3⟩ := hS.1.1 q hq
    have r1 : ∀ x m, rdR (P d x m) 6 2 1 = some 8 := fun x m => rp_1 d x m 0 (by omega)
    have l1 : ∀ x m, ldI (P d x m) 8 0 (nI q) = some ((x.2.2.2.1 0).1 1 q) := fun x m => lp_1 d x m 0 (by omega) q (by omega)
    have s1 : ∀ x m v, stI (P d x m) 8 0 (nI q) v = some (P d (xS x 0 (sA (x.2.2.2.1 0) 1 q v)) m) := fun x m v => sp_1 d x m 0 (by omega) q v (by omega)
    by_cases c2 : A.1 1 q = 0
    · refine OpOK_n hR (-1) ?_ ?_
      · simp (disch := omega) only [c_X0_douse, e_X0_douse_0, e_X0_douse_8, e_X0_douse_20, cond_true, cond_false, Option.bind_some, rI_s, rL_s, rR_s, rV_s, cnd_d, cnd_ne, cnd_eq, bI_d0, bI_t0, ite_not, decide_eq_false_iff_not, decide_eq_true_eq, lg_cmp_ge, lg_cmp_le, lg_cmp_gt, lg_cmp_lt, lg_cmp_eq, okb_1, okb_0, okb_b, eq_self, if_true, if_false, Bool.true_eq_false, Bool.false_eq_true, isO_X, xh, rx_1, r1, l1, b1, c2]
      · simp (disch := omega) only [c_X4_douse, e_X4_douse_0, e_X4_douse_8, e_X4_douse_16, cond_true, cond_false, Option.bind_some, rI_s, rL_s, rR_s, rV_s, cnd_d, cnd_ne, cnd_eq, bI_d0, bI_t0, ite_not, decide_eq_false_iff_not, decide_eq_true_eq, lg_cmp_ge, lg_cmp_le, lg_cmp_gt, lg_cmp_lt, lg_cmp_eq, okb_1, okb_0, okb_b, eq_self, if_true, if_false, Bool.true_eq_false, Bool.false_eq_true, isO_M, mh, M_heatOf, a1, c2]
    · obtain ⟨x1, e1, es, eR, hk⟩ := act_keep hP hS (k + 997)
      obtain ⟨m1, u', a', g1, hP1, hS1, em⟩ := hk (k + 998) (xS x1 0 (sA (x1.2.2.2.1 0) 1 q 0))
      refine ⟨A.1 1 q, Z, d, xS x1 0 (sA (x1.2.2.2.1 0) 1 q 0), mA m1 10 (14 + 4 * q + 1) 0, ?_, ?_, Rel_of (RelP_st hP1 (xS_FX _ _ _) (mA_Fr _ _ _ (by omega))) (RelS_set hS1 h6 1 q 0 (Or.inl rfl) hq fun _ => by decide), by omega, by omega⟩
      · simp (disch := omega) only [c_X0_douse, e_X0_douse_0, e_X0_douse_8, e_X0_douse_22, cond_true, cond_false, Option.bind_some, rI_s, rL_s, rR_s, rV_s, cnd_d, cnd_ne, cnd_eq, bI_d0, bI_t0, ite_not, decide_eq_false_iff_not, decide_eq_true_eq, lg_cmp_ge, lg_cmp_le, lg_cmp_gt, lg_cmp_lt, lg_cmp_eq, okb_1, okb_0, okb_b, eq_self, if_true, if_false, Bool.true_eq_false, Bool.false_eq_true, isO_X, xh, rx_1, r1, l1, b1, c2, e1, s1, es]
      · simp (disch := omega) only [c_X4_douse, e_X4_douse_0, e_X4_douse_8, e_X4_douse_18, cond_true, cond_false, Option.bind_some, rI_s, rL_s, rR_s, rV_s, cnd_d, cnd_ne, cnd_eq, bI_d0, bI_t0, ite_not, decide_eq_false_iff_not, decide_eq_true_eq, lg_cmp_ge, lg_cmp_le, lg_cmp_gt, lg_cmp_lt, lg_cmp_eq, okb_1, okb_0, okb_b, eq_self, if_true, if_false, Bool.true_eq_false, Bool.false_eq_true, isO_M, mh, M_heatOf, a1, c2, g1, em, rm_21, li_14, li_4, pk_mul, nI_add, nI_1, sm_10]
theorem op_say (g w : Int32) : OpOK n_X0_say n_X4_say [.int g, .int w] := by
  intro Z d x m hR k
  obtain ⟨C, A, n, u, a, t, nr, F, fo, hP, hS⟩ := Rel_to hR
  have hV := hP.2.1
  have hvp := (hV.2.1 d (Ext_refl Z d)).1
  have h6 := hV.1.1.2
  have xh := X_isHouse (k + 996) d x m C (hvp.1 x m) h6 g
  have mh : ∀ x, _ := fun x => M_isHouse (k + 998) d x m C.1 h6 hV.1.1.1 g
  cases c1 : hB C.1 g with
  | false =>
    rw [c1] at xh mh
    refine OpOK_n hR (-1) ?_ ?_
    · simp (disch := omega) only [c_X0_say, e_X0_say_0, e_X0_say_33, cond_true, cond_false, Option.bind_some, rI_s, rL_s, rR_s, rV_s, cnd_d, cnd_ne, cnd_eq, bI_d0, bI_t0, ite_not, decide_eq_false_iff_not, decide_eq_true_eq, lg_cmp_ge, lg_cmp_le, lg_cmp_gt, lg_cmp_lt, lg_cmp_eq, okb_1, okb_0, okb_b, eq_self, if_true, if_false, Bool.true_eq_false, Bool.false_eq_true, isO_X, xh]
    · simp (disch := omega) only [c_X4_say, e_X4_say_0, e_X4_say_29, cond_true, cond_false, Option.bind_some, rI_s, rL_s, rR_s, rV_s, cnd_d, cnd_ne, cnd_eq, bI_d0, bI_t0, ite_not, decide_eq_false_iff_not, decide_eq_true_eq, lg_cmp_ge, lg_cmp_le, lg_cmp_gt, lg_cmp_lt, lg_cmp_eq, okb_1, okb_0, okb_b, eq_self, if_true, if_false, Bool.true_eq_false, Bool.false_eq_true, isO_M, mh]
  | true =>
    obtain ⟨q, hq, rfl⟩ := hB_of (by omega) c1
    rw [c1] at xh mh
    cases c3 : inI 0 20 w with
    | false =>
      refine OpOK_n hR (-1) ?_ ?_
      · simp (disch := omega) only [c_X0_say, e_X0_say_0, e_X0_say_8, e_X0_say_33, cond_true, cond_false, Option.bind_some, rI_s, rL_s, rR_s, rV_s, cnd_d, cnd_ne, cnd_eq, bI_d0, bI_t0, ite_not, decide_eq_false_iff_not, decide_eq_true_eq, lg_cmp_ge, lg_cmp_le, lg_cmp_gt, lg_cmp_lt, lg_cmp_eq, okb_1, okb_0, okb_b, eq_self, if_true, if_false, Bool.true_eq_false, Bool.false_eq_true, isO_X, xh, X_in, in_0_20, c3]
      · simp (disch := omega) only [c_X4_say, e_X4_say_0, e_X4_say_8, e_X4_say_29, cond_true, cond_false, Option.bind_some, rI_s, rL_s, rR_s, rV_s, cnd_d, cnd_ne, cnd_eq, bI_d0, bI_t0, ite_not, decide_eq_false_iff_not, decide_eq_true_eq, lg_cmp_ge, lg_cmp_le, lg_cmp_gt, lg_cmp_lt, lg_cmp_eq, okb_1, okb_0, okb_b, eq_self, if_true, if_false, Bool.true_eq_false, Bool.false_eq_true, isO_M, mh, M_in, in_0_20, c3]
    | true =>
      obtain ⟨b0, b1, b2, b3⟩ := hS.2.1.1 q hq
      obtain ⟨a0, a1, a2, a3⟩ := hS.1.1 q hq
      have r1 : ∀ x m, rdR (P d x m) 6 2 2 = some 9 := fun x m => rp_2 d x m 0 (by omega)
      have l1 : ∀ x m, ldI (P d x m) 9 0 (nI q) = some ((x.2.2.2.1 0).1 2 q) := fun x m => lp_2 d x m 0 (by omega) q (by omega)
      have s1 : ∀ x m v, stI (P d x m) 9 0 (nI q) v = some (P d (xS x 0 (sA (x.2.2.2.1 0) 2 q v)) m) := fun x m v => sp_2 d x m 0 (by omega) q v (by omega)
      by_cases c2 : A.1 2 q = w
      · refine OpOK_n hR (-1) ?_ ?_
        · simp (disch := omega) only [c_X0_say, e_X0_say_0, e_X0_say_8, e_X0_say_20, e_X0_say_33, cond_true, cond_false, Option.bind_some, rI_s, rL_s, rR_s, rV_s, cnd_d, cnd_ne, cnd_eq, bI_d0, bI_t0, ite_not, decide_eq_false_iff_not, decide_eq_true_eq, lg_cmp_ge, lg_cmp_le, lg_cmp_gt, lg_cmp_lt, lg_cmp_eq, okb_1, okb_0, okb_b, eq_self, if_true, if_false, Bool.true_eq_false, Bool.false_eq_true, isO_X, xh, X_in, in_0_20, c3, rx_1, r1, l1, b2, c2]
        · simp (disch := omega) only [c_X4_say, e_X4_say_0, e_X4_say_8, e_X4_say_20, e_X4_say_29, cond_true, cond_false, Option.bind_some, rI_s, rL_s, rR_s, rV_s, cnd_d, cnd_ne, cnd_eq, bI_d0, bI_t0, ite_not, decide_eq_false_iff_not, decide_eq_true_eq, lg_cmp_ge, lg_cmp_le, lg_cmp_gt, lg_cmp_lt, lg_cmp_eq, okb_1, okb_0, okb_b, eq_self, if_true, if_false, Bool.true_eq_false, Bool.false_eq_true, isO_M, mh, M_in, in_0_20, c3, M_saysOf, a2, c2]
      · obtain ⟨x1, e1, es, eR, hk⟩ := act_keep hP hS (k + 997)
        obtain ⟨m1, u', a', g1, hP1, hS1, em⟩ := hk (k + 998) (xS x1 0 (sA (x1.2.2.2.1 0) 2 q w))
        refine ⟨A.1 2 q, Z, d, xS x1 0 (sA (x1.2.2.2.1 0) 2 q w), mA m1 10 (14 + 4 * q + 2) w, ?_, ?_, Rel_of (RelP_st hP1 (xS_FX _ _ _) (mA_Fr _ _ _ (by omega))) (RelS_set hS1 h6 2 q w (Or.inr rfl) hq fun h => absurd h (by decide)), by omega, by omega⟩
        · simp (disch := omega) only [c_X0_say, e_X0_say_0, e_X0_say_8, e_X0_say_20, e_X0_say_35, cond_true, cond_false, Option.bind_some, rI_s, rL_s, rR_s, rV_s, cnd_d, cnd_ne, cnd_eq, bI_d0, bI_t0, ite_not, decide_eq_false_iff_not, decide_eq_true_eq, lg_cmp_ge, lg_cmp_le, lg_cmp_gt, lg_cmp_lt, lg_cmp_eq, okb_1, okb_0, okb_b, eq_self, if_true, if_false, Bool.true_eq_false, Bool.false_eq_true, isO_X, xh, X_in, in_0_20, c3, rx_1, r1, l1, b2, c2, e1, s1, es]
        · simp (disch := omega) only [c_X4_say, e_X4_say_0, e_X4_say_8, e_X4_say_20, e_X4_say_31, cond_true, cond_false, Option.bind_some, rI_s, rL_s, rR_s, rV_s, cnd_d, cnd_ne, cnd_eq, bI_d0, bI_t0, ite_not, decide_eq_false_iff_not, decide_eq_true_eq, lg_cmp_ge, lg_cmp_le, lg_cmp_gt, lg_cmp_lt, lg_cmp_eq, okb_1, okb_0, okb_b, eq_self, if_true, if_false, Bool.true_eq_false, Bool.false_eq_true, isO_M, mh, M_in, in_0_20, c3, M_saysOf, a2, c2, g1, em, rm_21, li_14, li_4, li_2, pk_mul, nI_add, nI_1, sm_10]
