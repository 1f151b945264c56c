theorem VAs_c {C : AC} {A : AA} {sd sd' : Nat → Int32} (h6 : C.1 ≤ 6) (h : VAs C A sd) (e : ∀ i, i < 111 → sd' i = sd i) : VAs C A sd' := by
  obtain ⟨a1, ⟨a13, a10, aw⟩, a11, a12, ag⟩ := h
  refine ⟨fun h hh => ?_, ⟨?_, ?_, ?_⟩, ?_, fun hx => ?_, ?_⟩
  · rw [e _ (by omega), e _ (by omega), e _ (by omega), e _ (by omega)]; exact a1 h hh
  · rw [e _ (by omega)]; exact a13
  · rw [e _ (by omega)]; exact a10
  · rw [e _ (by omega)]; exact aw
  · rw [e _ (by omega)]; exact a11
  · rw [e _ (by omega)]; exact a12 hx
  · exact ⟨by rw [← ag.1]; exact sumI_c fun i hi => by rw [e _ (by omega), e _ (by omega)], fun h hh => by rw [e _ (by omega)]; exact ag.2 h hh⟩
theorem VR_c {Z : Nat → Bool} {d : AH} {v : Nat} {sd sd' : Nat → Int32} {C : AC} (h : VR Z d v sd C) (e : ∀ i, i < 10 ∨ (38 ≤ i ∧ i < 111) → sd' i = sd i) : VR Z d v sd' C := by
  obtain ⟨⟨⟨v1, v2⟩, v3, v4, v5, v6⟩, v7, v8, v9, v10⟩ := h
  refine ⟨⟨⟨by rw [e 3 (by omega)]; exact v1, v2⟩, fun a b ha hb => by rw [e _ (by omega)]; exact v3 a b ha hb, fun h hh => by rw [e _ (by omega)]; exact v4 h hh, by rw [e 2 (by omega)]; exact v5, v6⟩, fun d' hd => ⟨(v7 d' hd).1, fun x m => ?_⟩, by rw [e 0 (by omega)]; exact v8, by rw [e 1 (by omega)]; exact v9, by rw [e 0 (by omega)]; exact v10⟩
  obtain ⟨w1, w2⟩ := (v7 d' hd).2 x m
  refine ⟨by rw [e 1 (by omega)]; exact w1, fun q hq => ?_⟩
  unfold HTold
  rw [e _ (by omega), e _ (by omega), e _ (by omega)]
  exact w2 q hq
theorem Rel_note {Z : Nat → Bool} {d : AH} {x x' : XS} {m m' : MS} {C : AC} {A : AA} {n n' u a t nr : Nat} {F : Nat → (Nat → Int64) → Int64} {fo : Option Nat} (hP : RelP Z d x m C n u a t nr F fo) (hS : RelS x m C A) (x1 : ∀ k, k ≠ 10 → x'.1 k = x.1 k) (x2 : x'.2.1 21 = x.2.1 21) (x3 : x'.2.2 = x.2.2) (m1 : m'.1 = m.1) (m2 : ∀ j, j ≠ 10 → m'.2.1 j = m.2.1 j) (m3 : ∀ i, i < 111 → m'.2.1 10 i = m.2.1 10 i) (hn : NR (x'.2.1 22) (x'.2.1 23) (x'.1 10) (m'.2.1 10) n') : Rel Z d x' m' := by
  obtain ⟨hZ, hV, hN, hPR, hT, hRR, hF, hD, hBr, hI⟩ := hP
  obtain ⟨hA, hX, hW⟩ := hS
  have h6 := hV.1.1.2
  refine Rel_of (C := C) (A := A) (n := n') (u := u) (a := a) (t := t) (nr := nr) (F := F) (fo := fo) ⟨hZ, ?_, hn, ?_, ?_, ?_, ?_, ?_, ?_, ?_⟩ ⟨VAs_c h6 hA m3, by rw [x3]; exact hX, hW⟩
  · rw [x3]
    exact VR_c hV fun i hi => m3 i (by omega)
  · obtain ⟨p1, p2, p3, p4, p5, p6⟩ := hPR
    refine ⟨p1, p2, by rw [x1 20 (by omega)]; exact p3, by rw [m1]; exact p4, by rw [x1 21 (by omega)]; exact p5, fun j hj => ?_⟩
    obtain ⟨A', q1, q2, q3⟩ := p6 j hj
    refine ⟨A', by rw [x3]; exact q1, ?_, q3⟩
    rw [m2 12 (by omega)]
    exact VAs_c h6 q2 fun i hi => by
      unfold layS
      by_cases c : 10 ≤ i ∧ i < 38
      · rw [if_pos c, if_pos c]
      · rw [if_neg c, if_neg c, m3 i hi]
  · obtain ⟨p1, p2, p3, p4⟩ := hT
    exact ⟨p1, by rw [x1 7 (by omega)]; exact p2, by rw [m1]; exact p3, fun i hi => by rw [x2, m2 1 (by omega)]; exact p4 i hi⟩
  · exact RR_fr hRR (x1 102 (by omega)) (by rw [x3]) (by rw [m1]) fun j hj => m2 j (by omega)
  · rw [x1 4 (by omega), m1]; exact hF
  · rw [x1 11 (by omega), m1]; exact hD
  · rw [x1 17 (by omega), m1]; exact hBr
  · unfold IR IM
    rw [x3, m2 21 (by omega), m2 18 (by omega), m2 19 (by omega), m2 20 (by omega)]
    exact hI
theorem op_note (v w : Int32) : OpOK n_X0_note n_X4_note [.int v, .int w] := by
  intro Z d x m hR k
  obtain ⟨C, A, n, u, a, t, nr, F, fo, hP, hS⟩ := Rel_to hR
  obtain ⟨hZ, hV, hN, hPR, hT, hRR, hF, hD, hBr, hI⟩ := id hP
  have hvp := (hV.2.1 d (Ext_refl Z d)).1
  have h6 := hV.1.1.2
  have hfl := flag_eq hV
  have s131 : ∀ x m v, stI (P d x m) 163 0 (nI 131) v = some (P d x (mA m 10 131 v)) := fun x m v => sm_10 d x m 131 v (by omega)
  by_cases c1 : v = -1
  · subst c1
    refine ⟨0, Z, d, xF x 10 0, mA m 10 131 0, ?_, ?_, Rel_note hP hS (n' := 0) (fun k hk => xF_n _ _ _ _ hk) rfl rfl rfl (fun j hj => va_up_ne _ _ hj) (fun i hi => mA_n _ _ _ _ (by omega)) ⟨by omega, xF_s _ _ _, mA_s _ _ _, fun i hi => absurd hi (by omega)⟩, by omega, by omega⟩
    · simp (disch := omega) only [c_X0_note, e_X0_note_0, e_X0_note_5, cond_true, cond_false, Option.bind_some, rI_s, rL_s, rR_s, rV_s, cnd_d, cnd_ne, cnd_eq, bI_d0, bI_t0, ite_not, decide_eq_false_iff_not, decide_eq_true_eq, lg_cmp_ge, lg_cmp_le, lg_cmp_gt, lg_cmp_lt, lg_cmp_eq, okb_1, okb_0, okb_b, eq_self, if_true, if_false, Bool.true_eq_false, Bool.false_eq_true, isO_X, wx_10]
    · simp (disch := omega) only [c_X4_note, e_X4_note_0, e_X4_note_5, cond_true, cond_false, Option.bind_some, rI_s, rL_s, rR_s, rV_s, cnd_d, cnd_ne, cnd_eq, bI_d0, bI_t0, ite_not, decide_eq_false_iff_not, decide_eq_true_eq, lg_cmp_ge, lg_cmp_le, lg_cmp_gt, lg_cmp_lt, lg_cmp_eq, okb_1, okb_0, okb_b, eq_self, if_true, if_false, Bool.true_eq_false, Bool.false_eq_true, isO_M, rm_21, li_131, s131]
  · cases c2 : inI 0 60 v with
    | false =>
      refine OpOK_n hR (-2) ?_ ?_
      · simp (disch := omega) only [c_X0_note, e_X0_note_0, e_X0_note_12, e_X0_note_41, cond_true, cond_false, Option.bind_some, rI_s, rL_s, rR_s, rV_s, cnd_d, cnd_ne, cnd_eq, bI_d0, bI_t0, ite_not, decide_eq_false_iff_not, decide_eq_true_eq, lg_cmp_ge, lg_cmp_le, lg_cmp_gt, lg_cmp_lt, lg_cmp_eq, okb_1, okb_0, okb_b, eq_self, if_true, if_false, Bool.true_eq_false, Bool.false_eq_true, isO_X, c1, X_in, in_0_60, c2]
      · simp (disch := omega) only [c_X4_note, e_X4_note_0, e_X4_note_16, e_X4_note_49, cond_true, cond_false, Option.bind_some, rI_s, rL_s, rR_s, rV_s, cnd_d, cnd_ne, cnd_eq, bI_d0, bI_t0, ite_not, decide_eq_false_iff_not, decide_eq_true_eq, lg_cmp_ge, lg_cmp_le, lg_cmp_gt, lg_cmp_lt, lg_cmp_eq, okb_1, okb_0, okb_b, eq_self, if_true, if_false, Bool.true_eq_false, Bool.false_eq_true, isO_M, c1, M_in, in_0_60, c2]
    | true =>
      have xp := X_isPlace (k + 996) d x m C (hvp.1 x m) h6 w
      have mp : ∀ x', callR (k + 999) n_X4_isPlace [.ref 153, .int w] (P d x' m) = _ := fun x' => M_isPlace (k + 997) d x' m C.1 h6 hV.1.1.1 w
      rw [hfl] at mp
      cases c3 : (decide (0 < C.2.2.2.1) && hB (C.1 + 1) w) with
      | false =>
        rw [c3] at xp mp
        refine OpOK_n hR (-2) ?_ ?_
        · simp (disch := omega) only [c_X0_note, e_X0_note_0, e_X0_note_12, e_X0_note_24, e_X0_note_41, cond_true, cond_false, Option.bind_some, rI_s, rL_s, rR_s, rV_s, cnd_d, cnd_ne, cnd_eq, bI_d0, bI_t0, ite_not, decide_eq_false_iff_not, decide_eq_true_eq, lg_cmp_ge, lg_cmp_le, lg_cmp_gt, lg_cmp_lt, lg_cmp_eq, okb_1, okb_0, okb_b, eq_self, if_true, if_false, Bool.true_eq_false, Bool.false_eq_true, isO_X, c1, X_in, in_0_60, c2, xp]
        · simp (disch := omega) only [c_X4_note, e_X4_note_0, e_X4_note_16, e_X4_note_28, e_X4_note_49, cond_true, cond_false, Option.bind_some, rI_s, rL_s, rR_s, rV_s, cnd_d, cnd_ne, cnd_eq, bI_d0, bI_t0, ite_not, decide_eq_false_iff_not, decide_eq_true_eq, lg_cmp_ge, lg_cmp_le, lg_cmp_gt, lg_cmp_lt, lg_cmp_eq, okb_1, okb_0, okb_b, eq_self, if_true, if_false, Bool.true_eq_false, Bool.false_eq_true, isO_M, c1, M_in, in_0_60, c2, mp]
      | true =>
        rw [c3] at xp mp
        obtain ⟨p1, p2, p3, p4⟩ := hN
        by_cases c4 : n = 10
        · subst c4
          refine OpOK_n hR (-2) ?_ ?_
          · simp (disch := omega) only [c_X0_note, e_X0_note_0, e_X0_note_12, e_X0_note_24, e_X0_note_32, e_X0_note_41, cond_true, cond_false, Option.bind_some, rI_s, rL_s, rR_s, rV_s, cnd_d, cnd_ne, cnd_eq, bI_d0, bI_t0, ite_not, decide_eq_false_iff_not, decide_eq_true_eq, lg_cmp_ge, lg_cmp_le, lg_cmp_gt, lg_cmp_lt, lg_cmp_eq, okb_1, okb_0, okb_b, eq_self, if_true, if_false, Bool.true_eq_false, Bool.false_eq_true, isO_X, c1, X_in, in_0_60, c2, xp, rx_10, p2, li_10]
          · simp (disch := omega) only [c_X4_note, e_X4_note_0, e_X4_note_16, e_X4_note_28, e_X4_note_36, e_X4_note_49, cond_true, cond_false, Option.bind_some, rI_s, rL_s, rR_s, rV_s, cnd_d, cnd_ne, cnd_eq, bI_d0, bI_t0, ite_not, decide_eq_false_iff_not, decide_eq_true_eq, lg_cmp_ge, lg_cmp_le, lg_cmp_gt, lg_cmp_lt, lg_cmp_eq, okb_1, okb_0, okb_b, eq_self, if_true, if_false, Bool.true_eq_false, Bool.false_eq_true, isO_M, c1, M_in, in_0_60, c2, mp, rm_21, li_131, lm_10, p3, li_10]
        · have hn : n < 10 := by omega
          obtain ⟨j, hj, rfl⟩ := inI_0 (n := 60) (by omega) c2
          refine ⟨nI (n + 1), Z, d, xF (xA (xA x 22 n (nI j)) 23 n w) 10 (nI (n + 1)), mA (mA (mA m 10 (111 + 2 * n) (nI j)) 10 (111 + 2 * n + 1) w) 10 131 (nI (n + 1)), ?_, ?_, Rel_note hP hS (n' := n + 1) (fun k hk => xF_n _ _ _ _ hk) ?_ rfl rfl (fun j hj => by
            show va_up (va_up (va_up m.2.1 10 _) 10 _) 10 _ j = _
            rw [va_up_ne _ _ hj, va_up_ne _ _ hj, va_up_ne _ _ hj]) (fun i hi => by rw [mA_n _ _ _ _ (by omega), mA_n _ _ _ _ (by omega), mA_n _ _ _ _ (by omega)]) ⟨by omega, xF_s _ _ _, mA_s _ _ _, fun i hi => ?_⟩, by omega, by omega⟩
          · simp (disch := omega) only [c_X0_note, e_X0_note_0, e_X0_note_12, e_X0_note_24, e_X0_note_32, e_X0_note_44, cond_true, cond_false, Option.bind_some, rI_s, rL_s, rR_s, rV_s, cnd_d, cnd_ne, cnd_eq, bI_d0, bI_t0, ite_not, decide_eq_false_iff_not, decide_eq_true_eq, lg_cmp_ge, lg_cmp_le, lg_cmp_gt, lg_cmp_lt, lg_cmp_eq, okb_1, okb_0, okb_b, eq_self, if_true, if_false, Bool.true_eq_false, Bool.false_eq_true, isO_X, c1, X_in, in_0_60, c2, xp, rx_10, rx_8, rx_9, p2, li_10, nI_eqP, c4, sx_22, sx_23, xA_1, wx_10, nI_1, xF_s]
          · simp (disch := omega) only [c_X4_note, e_X4_note_0, e_X4_note_16, e_X4_note_28, e_X4_note_36, e_X4_note_52, cond_true, cond_false, Option.bind_some, rI_s, rL_s, rR_s, rV_s, cnd_d, cnd_ne, cnd_eq, bI_d0, bI_t0, ite_not, decide_eq_false_iff_not, decide_eq_true_eq, lg_cmp_ge, lg_cmp_le, lg_cmp_gt, lg_cmp_lt, lg_cmp_eq, okb_1, okb_0, okb_b, eq_self, if_true, if_false, Bool.true_eq_false, Bool.false_eq_true, isO_M, c1, M_in, in_0_60, c2, mp, rm_21, li_131, li_111, li_2, lm_10, p3, li_10, nI_eqP, c4, sm_10, pk_mul, nI_add, nI_1, mA_n, mA_s]
          · rw [xF_2, xA_o _ _ _ _ _ (by omega), xA_o _ _ _ _ _ (by omega)]
          · rw [xF_2]
            by_cases e : i = n
            · subst e
              refine ⟨?_, ?_, j, hj, ?_⟩
              · rw [xA_o _ _ _ _ _ (by omega), xA_s, mA_n _ _ _ _ (by omega), mA_n _ _ _ _ (by omega), mA_s]
              · rw [xA_s, mA_n _ _ _ _ (by omega), show 112 + 2 * i = 111 + 2 * i + 1 by omega, mA_s]
              · rw [mA_n _ _ _ _ (by omega), mA_n _ _ _ _ (by omega), mA_s]
            · obtain ⟨q1, q2, q3⟩ := p4 i (by omega)
              rw [xA_o _ _ _ _ _ (by omega), xA_n _ _ _ _ _ e, xA_n _ _ _ _ _ e, xA_o _ _ _ _ _ (by omega), mA_n _ _ _ _ (by omega), mA_n _ _ _ _ (by omega), mA_n _ _ _ _ (by omega), mA_n _ _ _ _ (by omega), mA_n _ _ _ _ (by omega), mA_n _ _ _ _ (by omega)]
              exact ⟨q1, q2, q3⟩
