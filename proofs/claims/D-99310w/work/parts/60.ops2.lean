theorem VR_far {Z : Nat → Bool} {d : AH} {v : Nat} {sd : Nat → Int32} {C : AC} (hV : VR Z d v sd C) (a b : Nat) (ha : a < 7) (hb : b < 7) (h1 : sd 0 = 1) : C.2.1 a b = -2 ∨ 0 ≤ C.2.1 a b := by
  rcases hV.2.2.2.2 a b ha hb h1 with h | h
  · exact Or.inr (by rw [h.2]; decide)
  · rcases h.2 with h | h
    · exact Or.inl h
    · exact Or.inr (Int32.le_of_lt h)
theorem Rel_seed {Z : Nat → Bool} {d : AH} {x : XS} {m : MS} (h : Rel Z d x m) (v : Int32) (hv : 0 ≤ v) : Rel Z d (xF x 11 v) (mF m 23 v) := by
  obtain ⟨hZ, C, A, n, u, a, t, nr, F, fo, hV, hA, hX, hW, hN, hP, hT, hR, hF, hD, hB, hI⟩ := h
  obtain ⟨r1, r2, r3, r4, r5⟩ := hR
  exact ⟨hZ, C, A, n, u, a, t, nr, F, fo, hV, hA, hX, hW, hN, hP, hT, ⟨r1, r2, r3, fun r hr => ⟨fun d' hd => RuX_fr ((r4 r hr).1 d' hd) rfl rfl, RuM_fr (r4 r hr).2 fun j _ => rfl⟩, r5⟩, hF, ⟨by rw [xF_s, mF_s], by rw [mF_s]; exact hv⟩, hB, hI⟩
theorem Rel_taped {Z : Nat → Bool} {d : AH} {x : XS} {m : MS} (h : Rel Z d x m) (t : Nat) (ht : t ≤ 400) : Rel Z d (xF x 7 (nI t)) (mF m 1 (nI t)) := by
  obtain ⟨hZ, C, A, n, u, a, t0, nr, F, fo, hV, hA, hX, hW, hN, hP, hT, hR, hF, hD, hB, hI⟩ := h
  obtain ⟨r1, r2, r3, r4, r5⟩ := hR
  exact ⟨hZ, C, A, n, u, a, t, nr, F, fo, hV, hA, hX, hW, hN, hP, ⟨ht, xF_s _ _ _, mF_s _ _ _, hT.2.2.2⟩, ⟨r1, r2, r3, fun r hr => ⟨fun d' hd => RuX_fr ((r4 r hr).1 d' hd) rfl rfl, RuM_fr (r4 r hr).2 fun j _ => rfl⟩, r5⟩, hF, hD, hB, hI⟩
theorem Rel_force {Z : Nat → Bool} {d : AH} {x : XS} {m : MS} (h : Rel Z d x m) (fo : Option Nat) (hfo : ∀ r, fo = some r → ∃ n, n ≤ 6 ∧ x.1 102 = nI n ∧ r < n) : Rel Z d (xF x 4 (oI fo)) (mF m 22 (oI fo)) := by
  obtain ⟨hZ, C, A, n, u, a, t, nr, F, fo0, hV, hA, hX, hW, hN, hP, hT, hR, hF, hD, hB, hI⟩ := h
  obtain ⟨r1, r2, r3, r4, r5⟩ := hR
  refine ⟨hZ, C, A, n, u, a, t, nr, F, fo, hV, hA, hX, hW, hN, hP, hT, ⟨r1, r2, r3, fun r hr => ⟨fun d' hd => RuX_fr ((r4 r hr).1 d' hd) rfl rfl, RuM_fr (r4 r hr).2 fun j _ => rfl⟩, r5⟩, ⟨xF_s _ _ _, mF_s _ _ _, fun r e => ?_⟩, hD, hB, hI⟩
  obtain ⟨n', hn', h, h2⟩ := hfo r e
  rw [r2, nI_eq (by omega) (by omega)] at h
  omega
theorem op_seed (v : Int32) : OpS n_X0_seed n_X4_seed [.int v] := by
  intro Z d x m hR k
  obtain ⟨hZ, C, A, n, u, a, t, nr, F, fo, hV, hA, hX, hW, hN, hP, hT, hRR, hF, hD, hB, hI⟩ := id hR
  by_cases h0 : 0 ≤ v
  · refine ⟨m.1 23, xF x 11 v, mF m 23 v, fun m' => ?_, fun x' => ?_, Rel_seed hR v h0⟩
    · simp (disch := omega) only [e_X0_seed_0, e_X0_seed_4, e_X0_seed_6, c_X0_seed, cond_true, cond_false, Option.bind_some, rI_s, rL_s, rR_s, rV_s, cnd_d, cnd_ne, cnd_eq, bI_d0, bI_t0, ite_not, decide_eq_false_iff_not, decide_eq_true_eq, lg_cmp_ge, lg_cmp_le, lg_cmp_gt, lg_cmp_lt, lg_cmp_eq, okb_1, okb_0, okb_b, eq_self, if_true, if_false, Bool.true_eq_false, Bool.false_eq_true, isO_X, rx_11, wx_11, h0, hD.1]
    · simp (disch := omega) only [e_X4_seed_0, e_X4_seed_4, e_X4_seed_6, c_X4_seed, cond_true, cond_false, Option.bind_some, rI_s, rL_s, rR_s, rV_s, cnd_d, cnd_ne, cnd_eq, bI_d0, bI_t0, ite_not, decide_eq_false_iff_not, decide_eq_true_eq, lg_cmp_ge, lg_cmp_le, lg_cmp_gt, lg_cmp_lt, lg_cmp_eq, okb_1, okb_0, okb_b, eq_self, if_true, if_false, Bool.true_eq_false, Bool.false_eq_true, isO_M, rm_23, wm_23, h0]
  · refine ⟨-1, x, m, fun m' => ?_, fun x' => ?_, hR⟩
    · simp (disch := omega) only [e_X0_seed_0, e_X0_seed_4, e_X0_seed_6, c_X0_seed, cond_true, cond_false, Option.bind_some, rI_s, rL_s, rR_s, rV_s, cnd_d, cnd_ne, cnd_eq, bI_d0, bI_t0, ite_not, decide_eq_false_iff_not, decide_eq_true_eq, lg_cmp_ge, lg_cmp_le, lg_cmp_gt, lg_cmp_lt, lg_cmp_eq, okb_1, okb_0, okb_b, eq_self, if_true, if_false, Bool.true_eq_false, Bool.false_eq_true, isO_X, h0]
    · simp (disch := omega) only [e_X4_seed_0, e_X4_seed_4, e_X4_seed_6, c_X4_seed, cond_true, cond_false, Option.bind_some, rI_s, rL_s, rR_s, rV_s, cnd_d, cnd_ne, cnd_eq, bI_d0, bI_t0, ite_not, decide_eq_false_iff_not, decide_eq_true_eq, lg_cmp_ge, lg_cmp_le, lg_cmp_gt, lg_cmp_lt, lg_cmp_eq, okb_1, okb_0, okb_b, eq_self, if_true, if_false, Bool.true_eq_false, Bool.false_eq_true, isO_M, h0]
theorem op_end (v : Int32) : OpS n_X0_end n_X4_end [.int v] := by
  intro Z d x m hR k
  obtain ⟨hZ, C, A, n, u, a, t, nr, F, fo, hV, hA, hX, hW, hN, hP, hT, hRR, hF, hD, hB, hI⟩ := id hR
  by_cases h0 : v < 0
  · refine ⟨-1, x, m, fun m' => ?_, fun x' => ?_, hR⟩
    · simp (disch := omega) only [e_X0_end_0, e_X0_end_4, e_X0_end_12, e_X0_end_14, c_X0_end, cond_true, cond_false, Option.bind_some, rI_s, rL_s, rR_s, rV_s, cnd_d, cnd_ne, cnd_eq, bI_d0, bI_t0, ite_not, decide_eq_false_iff_not, decide_eq_true_eq, lg_cmp_ge, lg_cmp_le, lg_cmp_gt, lg_cmp_lt, lg_cmp_eq, okb_1, okb_0, okb_b, eq_self, if_true, if_false, Bool.true_eq_false, Bool.false_eq_true, isO_X, h0]
    · simp (disch := omega) only [e_X4_end_0, e_X4_end_4, e_X4_end_12, e_X4_end_14, c_X4_end, cond_true, cond_false, Option.bind_some, rI_s, rL_s, rR_s, rV_s, cnd_d, cnd_ne, cnd_eq, bI_d0, bI_t0, ite_not, decide_eq_false_iff_not, decide_eq_true_eq, lg_cmp_ge, lg_cmp_le, lg_cmp_gt, lg_cmp_lt, lg_cmp_eq, okb_1, okb_0, okb_b, eq_self, if_true, if_false, Bool.true_eq_false, Bool.false_eq_true, isO_M, h0]
  · by_cases h1 : v ≤ nI t
    · obtain ⟨j, hj, e⟩ := nI_of h0
      have ht := hT.1
      have hjt : j ≤ t := by rw [e] at h1; exact (nI_leI hj (by omega)).mp h1
      subst e
      refine ⟨nI j, xF x 7 (nI j), mF m 1 (nI j), fun m' => ?_, fun x' => ?_, Rel_taped hR j (by omega)⟩
      · simp (disch := omega) only [e_X0_end_0, e_X0_end_4, e_X0_end_12, e_X0_end_14, c_X0_end, cond_true, cond_false, Option.bind_some, rI_s, rL_s, rR_s, rV_s, cnd_d, cnd_ne, cnd_eq, bI_d0, bI_t0, ite_not, decide_eq_false_iff_not, decide_eq_true_eq, lg_cmp_ge, lg_cmp_le, lg_cmp_gt, lg_cmp_lt, lg_cmp_eq, okb_1, okb_0, okb_b, eq_self, if_true, if_false, Bool.true_eq_false, Bool.false_eq_true, isO_X, h0, rx_7, wx_7, hT.2.1, h1]
      · simp (disch := omega) only [e_X4_end_0, e_X4_end_4, e_X4_end_12, e_X4_end_14, c_X4_end, cond_true, cond_false, Option.bind_some, rI_s, rL_s, rR_s, rV_s, cnd_d, cnd_ne, cnd_eq, bI_d0, bI_t0, ite_not, decide_eq_false_iff_not, decide_eq_true_eq, lg_cmp_ge, lg_cmp_le, lg_cmp_gt, lg_cmp_lt, lg_cmp_eq, okb_1, okb_0, okb_b, eq_self, if_true, if_false, Bool.true_eq_false, Bool.false_eq_true, isO_M, h0, rm_1, wm_1, hT.2.2.1, h1]
    · refine ⟨-1, x, m, fun m' => ?_, fun x' => ?_, hR⟩
      · simp (disch := omega) only [e_X0_end_0, e_X0_end_4, e_X0_end_12, e_X0_end_14, c_X0_end, cond_true, cond_false, Option.bind_some, rI_s, rL_s, rR_s, rV_s, cnd_d, cnd_ne, cnd_eq, bI_d0, bI_t0, ite_not, decide_eq_false_iff_not, decide_eq_true_eq, lg_cmp_ge, lg_cmp_le, lg_cmp_gt, lg_cmp_lt, lg_cmp_eq, okb_1, okb_0, okb_b, eq_self, if_true, if_false, Bool.true_eq_false, Bool.false_eq_true, isO_X, h0, rx_7, hT.2.1, h1]
      · simp (disch := omega) only [e_X4_end_0, e_X4_end_4, e_X4_end_12, e_X4_end_14, c_X4_end, cond_true, cond_false, Option.bind_some, rI_s, rL_s, rR_s, rV_s, cnd_d, cnd_ne, cnd_eq, bI_d0, bI_t0, ite_not, decide_eq_false_iff_not, decide_eq_true_eq, lg_cmp_ge, lg_cmp_le, lg_cmp_gt, lg_cmp_lt, lg_cmp_eq, okb_1, okb_0, okb_b, eq_self, if_true, if_false, Bool.true_eq_false, Bool.false_eq_true, isO_M, h0, rm_1, hT.2.2.1, h1]
theorem X_size (k : Nat) (d : AH) (x : XS) (m : MS) : callR (k + 1) n_J2_size [.ref 18] (P d x m) = some (.inl (some (.int (x.1 102))), P d x m) := by
  have e : aget (P d x m) 18 = some (.inl (8, [.int (x.1 101), .ref (x.2.2.2.2.1 1), .int (x.1 102)])) := aget_Px d x m 18 (by omega)
  simp only [e_J2_size_0, c_J2_size, isO_of e, cond_true, cond_false, Option.bind_some, rI_s, rL_s, rR_s, rV_s, cnd_d, cnd_ne, cnd_eq, bI_d0, bI_t0, ite_not, decide_eq_false_iff_not, decide_eq_true_eq, lg_cmp_ge, lg_cmp_le, lg_cmp_gt, lg_cmp_lt, lg_cmp_eq, okb_1, okb_0, okb_b, rdI_of e 2 _ rfl]
theorem op_far (v w : Int32) : OpS n_X0_far n_X4_far [.int v, .int w] := by
  intro Z d x m hR k
  obtain ⟨hZ, C, A, n, u, a, t, nr, F, fo, hV, hA, hX, hW, -⟩ := id hR
  have hvp := (hV.2.1 d (Ext_refl Z d)).1
  have h6 := hV.1.1.2
  have h3 := hV.1.1.1
  have hfl := flag_eq hV
  have e1 : ∀ m' v, callR (k + 999) n_X0_isPlace [.ref 0, .int v] (P d x m') = some (.inl (some (.int (bI (decide (0 < C.2.2.2.1) && hB (C.1 + 1) v)))), P d x m') := fun m' v => X_isPlace (k + 996) d x m' C (hvp.1 x m') h6 v
  have e2 : ∀ x' v, callR (k + 999) n_X4_isPlace [.ref 153, .int v] (P d x' m) = some (.inl (some (.int (bI (decide (0 < C.2.2.2.1) && hB (C.1 + 1) v)))), P d x' m) := fun x' v => by rw [← hfl]; exact M_isPlace (k + 997) d x' m C.1 h6 h3 v
  cases c1 : (decide (0 < C.2.2.2.1) && hB (C.1 + 1) v) with
  | false =>
    refine ⟨-1, x, m, fun m' => ?_, fun x' => ?_, hR⟩
    · simp (disch := omega) only [e_X0_far_0, e_X0_far_8, e_X0_far_16, e_X0_far_18, e_X0_far_33, e_X0_far_38, e_X0_far_47, c_X0_far, cond_true, cond_false, Option.bind_some, rI_s, rL_s, rR_s, rV_s, cnd_d, cnd_ne, cnd_eq, bI_d0, bI_t0, ite_not, decide_eq_false_iff_not, decide_eq_true_eq, lg_cmp_ge, lg_cmp_le, lg_cmp_gt, lg_cmp_lt, lg_cmp_eq, okb_1, okb_0, okb_b, eq_self, if_true, if_false, Bool.true_eq_false, Bool.false_eq_true, isO_X, e1, c1]
    · simp (disch := omega) only [e_X4_far_0, e_X4_far_8, e_X4_far_16, e_X4_far_25, e_X4_far_26, c_X4_far, cond_true, cond_false, Option.bind_some, rI_s, rL_s, rR_s, rV_s, cnd_d, cnd_ne, cnd_eq, bI_d0, bI_t0, ite_not, decide_eq_false_iff_not, decide_eq_true_eq, lg_cmp_ge, lg_cmp_le, lg_cmp_gt, lg_cmp_lt, lg_cmp_eq, okb_1, okb_0, okb_b, eq_self, if_true, if_false, Bool.true_eq_false, Bool.false_eq_true, isO_M, e2, c1]
  | true =>
    cases c2 : (decide (0 < C.2.2.2.1) && hB (C.1 + 1) w) with
    | false =>
      refine ⟨-1, x, m, fun m' => ?_, fun x' => ?_, hR⟩
      · simp (disch := omega) only [e_X0_far_0, e_X0_far_8, e_X0_far_16, e_X0_far_18, e_X0_far_33, e_X0_far_38, e_X0_far_47, c_X0_far, cond_true, cond_false, Option.bind_some, rI_s, rL_s, rR_s, rV_s, cnd_d, cnd_ne, cnd_eq, bI_d0, bI_t0, ite_not, decide_eq_false_iff_not, decide_eq_true_eq, lg_cmp_ge, lg_cmp_le, lg_cmp_gt, lg_cmp_lt, lg_cmp_eq, okb_1, okb_0, okb_b, eq_self, if_true, if_false, Bool.true_eq_false, Bool.false_eq_true, isO_X, e1, c1, c2]
      · simp (disch := omega) only [e_X4_far_0, e_X4_far_8, e_X4_far_16, e_X4_far_25, e_X4_far_26, c_X4_far, cond_true, cond_false, Option.bind_some, rI_s, rL_s, rR_s, rV_s, cnd_d, cnd_ne, cnd_eq, bI_d0, bI_t0, ite_not, decide_eq_false_iff_not, decide_eq_true_eq, lg_cmp_ge, lg_cmp_le, lg_cmp_gt, lg_cmp_lt, lg_cmp_eq, okb_1, okb_0, okb_b, eq_self, if_true, if_false, Bool.true_eq_false, Bool.false_eq_true, isO_M, e2, c1, c2]
    | true =>
      have hl0 : 0 < C.2.2.2.1 := of_decide_eq_true (Bool.and_eq_true_iff.mp c1).1
      obtain ⟨i, hi, rfl⟩ := hB_of (by omega) (Bool.and_eq_true_iff.mp c1).2
      obtain ⟨j, hj, rfl⟩ := hB_of (by omega) (Bool.and_eq_true_iff.mp c2).2
      have hs1 : m.2.1 10 0 = 1 := by
        rcases hV.2.2.1 with h | h
        · exact h.1
        · rw [h.2.1] at hl0; exact absurd hl0 (by decide)
      have e3 : m.2.1 10 (44 + 7 * i + j) = C.2.1 i j := hV.1.2.1 i j (by omega) (by omega)
      refine ⟨C.2.1 i j, x, m, fun m' => ?_, fun x' => ?_, hR⟩
      · obtain ⟨z, ez, hz⟩ := X_far (k + 998) (hvp.1 x m') i j (by omega) (by omega)
        rcases hz with hz | hz
        · simp (disch := omega) only [e_X0_far_0, e_X0_far_8, e_X0_far_16, e_X0_far_18, e_X0_far_33, e_X0_far_38, e_X0_far_47, c_X0_far, cond_true, cond_false, Option.bind_some, rI_s, rL_s, rR_s, rV_s, cnd_d, cnd_ne, cnd_eq, bI_d0, bI_t0, ite_not, decide_eq_false_iff_not, decide_eq_true_eq, lg_cmp_ge, lg_cmp_le, lg_cmp_gt, lg_cmp_lt, lg_cmp_eq, okb_1, okb_0, okb_b, eq_self, if_true, if_false, Bool.true_eq_false, Bool.false_eq_true, isO_X, e1, c1, c2, rx_0, ez, hz.2.2, hz.2.1]
        · have h2 : C.2.1 i j = -2 := (VR_far hV i j (by omega) (by omega) hs1).resolve_right fun h => absurd hz.1 (Int32.not_lt.mpr h)
          simp (disch := omega) only [e_X0_far_0, e_X0_far_8, e_X0_far_16, e_X0_far_18, e_X0_far_33, e_X0_far_38, e_X0_far_47, c_X0_far, cond_true, cond_false, Option.bind_some, rI_s, rL_s, rR_s, rV_s, cnd_d, cnd_ne, cnd_eq, bI_d0, bI_t0, ite_not, decide_eq_false_iff_not, decide_eq_true_eq, lg_cmp_ge, lg_cmp_le, lg_cmp_gt, lg_cmp_lt, lg_cmp_eq, okb_1, okb_0, okb_b, eq_self, if_true, if_false, Bool.true_eq_false, Bool.false_eq_true, isO_X, e1, c1, c2, rx_0, ez, hz.2, show ¬ (10000 : Int32) < 10000 by decide, h2]
      · simp (disch := omega) only [e_X4_far_0, e_X4_far_8, e_X4_far_16, e_X4_far_25, e_X4_far_26, c_X4_far, cond_true, cond_false, Option.bind_some, rI_s, rL_s, rR_s, rV_s, cnd_d, cnd_ne, cnd_eq, bI_d0, bI_t0, ite_not, decide_eq_false_iff_not, decide_eq_true_eq, lg_cmp_ge, lg_cmp_le, lg_cmp_gt, lg_cmp_lt, lg_cmp_eq, okb_1, okb_0, okb_b, eq_self, if_true, if_false, Bool.true_eq_false, Bool.false_eq_true, isO_M, e2, c1, c2, M_farOf, e3]
