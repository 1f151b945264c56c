theorem mn_bd {A : AA} {h : Nat} (h1 : 0 ≤ A.1 1 h) (h0 : 0 ≤ A.1 0 h) (h9 : A.1 0 h ≤ 99) : 0 ≤ A.1 0 h - mnA A h ∧ A.1 0 h - mnA A h ≤ 99 := by
  obtain ⟨w, hw, ew⟩ := nI_of2 (M := 99) (n := 99) rfl (Int32.not_lt.mpr h0) h9
  unfold mnA
  by_cases c : A.1 1 h < A.1 0 h
  · rw [if_pos c]
    obtain ⟨g, hg, eg⟩ := nI_of (Int32.not_lt.mpr h1)
    rw [eg, ew] at c ⊢
    have := (nI_ltI hg (by omega)).mp c
    rw [pk_sub (by omega)]
    exact ⟨nI_pos' (by omega), (nI_leI (a := w - g) (b := 99) (by omega) (by omega)).mpr (by omega)⟩
  · rw [if_neg c, Int32.sub_self]
    decide
theorem WB_hour {C : AC} {A : AA} (hW : WA C A) (hB : ∀ h, h < C.1 → 0 ≤ A.1 0 h ∧ A.1 0 h ≤ 99) : ∀ h, h < C.1 → 0 ≤ (hourA C A).1 0 h ∧ (hourA C A).1 0 h ≤ 99 := by
  intro h hh
  have hw := WA_come (WA_go hW)
  have e : (comeA (goA C A)).1.1 0 h = A.1 0 h := by rw [come_w, go_arr]
  exact mn_bd (hw.1 h hh).1 (by rw [e]; exact (hB h hh).1) (by rw [e]; exact (hB h hh).2)
theorem go_1 (C : AC) (A : AA) : (goA C A).2.1 1 = A.2.1 1 := by
  unfold goA stepA sendA rowA
  repeat' split
  all_goals simp [va_up]
theorem come_2 (A : AA) : (comeA A).1.2 = A.2 := by
  unfold comeA
  split
  · rfl
  · rfl
theorem hour_1 (C : AC) (A : AA) : (hourA C A).2.1 1 = A.2.1 1 + 1 := by
  have h : ∀ B : AA, (tickA (burnA C B)).2.1 1 = B.2.1 1 + 1 := fun B => by simp [tickA, burnA, va_up]
  unfold hourA
  rw [h, come_2, go_1]
theorem X_fires0 (k : Nat) (d : AH) (x : XS) (m : MS) (t : Nat) (ht : t < 22) (C : AC) (A : AA) (h6 : C.1 ≤ 6) (hA : VX C A (x.2.2.2.1 t)) : callR (k + 1) n_X2_fires [.ref (sAd t)] (P d x m) = some (.inl (some (.int (orI (hotB (A.1 1)) C.1))), P d x m) := by
  have := X_fires k (P d x m) (sAd t) (x.2.2.2.1 t) (P_len d x m t ht)
  rw [P_g d x m t ht] at this
  rw [this, orI_6 h6 (fun i hi => hotB_c (hA.1 i hi).2.1) (fun i hi h6 => by unfold hotB; rw [(hA.2.1 i hi h6).2]; rfl)]
theorem X_left0 (k : Nat) (d : AH) (x : XS) (m : MS) (t : Nat) (ht : t < 22) (C : AC) (A : AA) (h6 : C.1 ≤ 6) (hA : VX C A (x.2.2.2.1 t)) : callR (k + 1) n_X2_left [.ref (sAd t)] (P d x m) = some (.inl (some (.int (sumI (A.1 0) C.1))), P d x m) := by
  have := X_left k (P d x m) (sAd t) (x.2.2.2.1 t) (P_len d x m t ht)
  rw [P_g d x m t ht] at this
  rw [this, sumI_6 h6 (fun i hi => (hA.1 i hi).1) (fun i hi h6 => (hA.2.1 i hi h6).1)]
theorem X_gone0 (k : Nat) (d : AH) (x : XS) (m : MS) (t : Nat) (ht : t < 22) (C : AC) (A : AA) (hA : VX C A (x.2.2.2.1 t)) : callR (k + 1) n_X2_gone [.ref (sAd t)] (P d x m) = some (.inl (some (.int (A.2.1 3))), P d x m) := by
  have := X_gone k (P d x m) (sAd t) (x.2.2.2.1 t) (P_len d x m t ht)
  rw [P_g d x m t ht, hA.2.2.2.2.2.1] at this
  exact this
theorem X_isAway0 (k : Nat) (d : AH) (x : XS) (m : MS) (t : Nat) (ht : t < 22) (C : AC) (A : AA) (hA : VX C A (x.2.2.2.1 t)) : callR (k + 1) n_X2_isAway [.ref (sAd t)] (P d x m) = some (.inl (some (.int (bI (decide (0 < A.2.1 0))))), P d x m) := by
  have := X_isAway k (P d x m) (sAd t) (x.2.2.2.1 t) (P_len d x m t ht)
  rw [P_g d x m t ht, hA.2.2.1.1] at this
  exact this
theorem op_count (v : Int32) : OpS n_X0_count n_X4_count [.int v] := by
  intro Z d x m hR k
  obtain ⟨hZ, C, A, n, u, a, t, nr, F, fo, hV, hA, hX, hW, hN, hP, hT, hRR, hF, hD, hB, hI⟩ := id hR
  have hvp := (hV.2.1 d (Ext_refl Z d)).1
  have hvw := fun m => ((hV.2.1 d (Ext_refl Z d)).2 x m).1
  have h6 := hV.1.1.2
  have h3 := hV.1.1.1
  have fx : ∀ m', callR (k + 999) n_X2_fires [.ref 6] (P d x m') = some (.inl (some (.int (orI (hotB (A.1 1)) C.1))), P d x m') := fun m' => X_fires0 (k + 998) d x m' 0 (by omega) C A h6 hX
  have lx : ∀ m', callR (k + 999) n_X2_left [.ref 6] (P d x m') = some (.inl (some (.int (sumI (A.1 0) C.1))), P d x m') := fun m' => X_left0 (k + 998) d x m' 0 (by omega) C A h6 hX
  have gx : ∀ m', callR (k + 999) n_X2_gone [.ref 6] (P d x m') = some (.inl (some (.int (A.2.1 3))), P d x m') := fun m' => X_gone0 (k + 998) d x m' 0 (by omega) C A hX
  have ax : ∀ m', callR (k + 999) n_X2_isAway [.ref 6] (P d x m') = some (.inl (some (.int (bI (decide (0 < A.2.1 0))))), P d x m') := fun m' => X_isAway0 (k + 998) d x m' 0 (by omega) C A hX
  have fm : ∀ x', callR (k + 999) n_X4_fires [.ref 153] (P d x' m) = some (.inl (some (.int (orI (hotB (A.1 1)) C.1))), P d x' m) := fun x' => by
    rw [M_fires (k + 997) d x' m C.1 h6 h3, orI_c fun i hi => hotB_c (hA.1 i hi).2.1]
  have lm : ∀ x', callR (k + 999) n_X4_worthAll [.ref 153] (P d x' m) = some (.inl (some (.int (sumI (A.1 0) C.1))), P d x' m) := fun x' => by
    rw [M_worthAll (k + 997) d x' m C.1 h6 h3, sumI_c fun i hi => (hA.1 i hi).1]
  have gm : ∀ x', callR (k + 999) n_X4_lostAll [.ref 153] (P d x' m) = some (.inl (some (.int (A.2.1 3))), P d x' m) := fun x' => by
    rw [M_lostAll (k + 996) d x' m C.1 h6 h3, hB.2.2, Int32.sub_zero, hA.2.2.2.2.1]
  have am : ∀ x', callR (k + 999) n_X4_isOnItsWay [.ref 153] (P d x' m) = some (.inl (some (.int (bI (decide (0 < A.2.1 0))))), P d x' m) := fun x' => by
    rw [M_isOnItsWay (k + 998) d x' m, hA.2.1.1]
  have r5 : ∀ m', rdI (P d x m') 6 2 9 = some (A.2.1 1) := fun m' => by rw [← hX.2.2.1.2.1]; exact rp_9 d x m' 0 (by omega)
  have r6 : ∀ m', rdI (P d x m') 6 2 6 = some (nI (A.2.2 0)) := fun m' => by rw [← hX.2.2.2.1]; exact rp_6 d x m' 0 (by omega)
  have r7 : ∀ m', rdI (P d x m') 6 2 7 = some ((x.2.2.2.1 0).2 7) := fun m' => rp_7 d x m' 0 (by omega)
  have r8 : ∀ m', rdI (P d x m') 6 2 8 = some (A.2.1 0) := fun m' => by rw [← hX.2.2.1.1]; exact rp_8 d x m' 0 (by omega)
  have go : ∀ r : Int32, (∀ m', callR (k + 1000) n_X0_count [.ref 0, .int v] (P d x m') = some (.inl (some (.int r)), P d x m')) → (∀ x', callR (k + 1000) n_X4_count [.ref 153, .int v] (P d x' m) = some (.inl (some (.int r)), P d x' m)) → ∃ (r : Int32) (x' : XS) (m' : MS), (∀ m, callR (k + 1000) n_X0_count [.ref 0, .int v] (P d x m) = some (.inl (some (.int r)), P d x' m)) ∧ (∀ x, callR (k + 1000) n_X4_count [.ref 153, .int v] (P d x m) = some (.inl (some (.int r)), P d x m')) ∧ Rel Z d x' m' := fun r e1 e2 => ⟨r, x, m, e1, e2, hR⟩
  by_cases hv : v ∈ ([0, 1, 2, 3, 4, 5, 6, 7, 8, 9, 10, 11, 12, 13, 14, 15] : List Int32)
  · simp only [List.mem_cons, List.not_mem_nil, or_false] at hv
    rcases hv with rfl | rfl | rfl | rfl | rfl | rfl | rfl | rfl | rfl | rfl | rfl | rfl | rfl | rfl | rfl | rfl
    · have jx : ∀ E h, evR T_X0_count E 0 ([(0, .ref 0), (1, .int 0)], [], h) = evR T_X0_count E 80 ([(0, .ref 0)], [], h) := fun E h => by rw [e_X0_count_0]; rfl
      have jm : ∀ E h, evR T_X4_count E 0 ([(0, .ref 153), (1, .int 0)], [], h) = evR T_X4_count E 80 ([(0, .ref 153), (1, .int 0)], [], h) := fun E h => by rw [e_X4_count_0]; rfl
      exact go (m.2.1 10 1) (fun m' => by simp (disch := omega) only [c_X0_count, jx, e_X0_count_80, cond_true, cond_false, Option.bind_some, rI_s, rL_s, rR_s, rV_s, cnd_d, cnd_ne, cnd_eq, bI_d0, bI_t0, ite_not, decide_eq_false_iff_not, decide_eq_true_eq, lg_cmp_ge, lg_cmp_le, lg_cmp_gt, lg_cmp_lt, lg_cmp_eq, okb_1, okb_0, okb_b, eq_self, if_true, if_false, Bool.true_eq_false, Bool.false_eq_true, isO_X, rx_0, hvw]) (fun x' => by
        have l1 : ldI (P d x' m) 163 0 (0 + 1 : Int32) = some (m.2.1 10 1) := lm_10 d x' m 1 (by omega)
        simp (disch := omega) only [c_X4_count, jm, e_X4_count_80, cond_true, cond_false, Option.bind_some, rI_s, rL_s, rR_s, rV_s, cnd_d, cnd_ne, cnd_eq, bI_d0, bI_t0, ite_not, decide_eq_false_iff_not, decide_eq_true_eq, lg_cmp_ge, lg_cmp_le, lg_cmp_gt, lg_cmp_lt, lg_cmp_eq, okb_1, okb_0, okb_b, eq_self, if_true, if_false, Bool.true_eq_false, Bool.false_eq_true, isO_M, rm_21, l1, hV.1.2.2.2.1, h3])
    · have jx : ∀ E h, evR T_X0_count E 0 ([(0, .ref 0), (1, .int 1)], [], h) = evR T_X0_count E 88 ([(0, .ref 0)], [], h) := fun E h => by rw [e_X0_count_0]; rfl
      have jm : ∀ E h, evR T_X4_count E 0 ([(0, .ref 153), (1, .int 1)], [], h) = evR T_X4_count E 80 ([(0, .ref 153), (1, .int 1)], [], h) := fun E h => by rw [e_X4_count_0]; rfl
      exact go C.2.2.2.1 (fun m' => by simp (disch := omega) only [c_X0_count, jx, e_X0_count_88, cond_true, cond_false, Option.bind_some, rI_s, rL_s, rR_s, rV_s, cnd_d, cnd_ne, cnd_eq, bI_d0, bI_t0, ite_not, decide_eq_false_iff_not, decide_eq_true_eq, lg_cmp_ge, lg_cmp_le, lg_cmp_gt, lg_cmp_lt, lg_cmp_eq, okb_1, okb_0, okb_b, eq_self, if_true, if_false, Bool.true_eq_false, Bool.false_eq_true, isO_X, rx_0, VL_leap (hvp.1 x m')]) (fun x' => by
        have l1 : ldI (P d x' m) 163 0 (1 + 1 : Int32) = some (m.2.1 10 2) := lm_10 d x' m 2 (by omega)
        simp (disch := omega) only [c_X4_count, jm, e_X4_count_80, cond_true, cond_false, Option.bind_some, rI_s, rL_s, rR_s, rV_s, cnd_d, cnd_ne, cnd_eq, bI_d0, bI_t0, ite_not, decide_eq_false_iff_not, decide_eq_true_eq, lg_cmp_ge, lg_cmp_le, lg_cmp_gt, lg_cmp_lt, lg_cmp_eq, okb_1, okb_0, okb_b, eq_self, if_true, if_false, Bool.true_eq_false, Bool.false_eq_true, isO_M, rm_21, l1, hV.1.2.2.2.1, h3])
    · have jx : ∀ E h, evR T_X0_count E 0 ([(0, .ref 0), (1, .int 2)], [], h) = evR T_X0_count E 96 ([(0, .ref 0)], [], h) := fun E h => by rw [e_X0_count_0]; rfl
      have jm : ∀ E h, evR T_X4_count E 0 ([(0, .ref 153), (1, .int 2)], [], h) = evR T_X4_count E 80 ([(0, .ref 153), (1, .int 2)], [], h) := fun E h => by rw [e_X4_count_0]; rfl
      exact go (nI C.1) (fun m' => by simp (disch := omega) only [c_X0_count, jx, e_X0_count_96, cond_true, cond_false, Option.bind_some, rI_s, rL_s, rR_s, rV_s, cnd_d, cnd_ne, cnd_eq, bI_d0, bI_t0, ite_not, decide_eq_false_iff_not, decide_eq_true_eq, lg_cmp_ge, lg_cmp_le, lg_cmp_gt, lg_cmp_lt, lg_cmp_eq, okb_1, okb_0, okb_b, eq_self, if_true, if_false, Bool.true_eq_false, Bool.false_eq_true, isO_X, rx_0, X_houses (k + 997) (hvp.1 x m')]) (fun x' => by
        have l1 : ldI (P d x' m) 163 0 (2 + 1 : Int32) = some (m.2.1 10 3) := lm_10 d x' m 3 (by omega)
        simp (disch := omega) only [c_X4_count, jm, e_X4_count_80, cond_true, cond_false, Option.bind_some, rI_s, rL_s, rR_s, rV_s, cnd_d, cnd_ne, cnd_eq, bI_d0, bI_t0, ite_not, decide_eq_false_iff_not, decide_eq_true_eq, lg_cmp_ge, lg_cmp_le, lg_cmp_gt, lg_cmp_lt, lg_cmp_eq, okb_1, okb_0, okb_b, eq_self, if_true, if_false, Bool.true_eq_false, Bool.false_eq_true, isO_M, rm_21, l1, hV.1.2.2.2.1, h3])
    · have jx : ∀ E h, evR T_X0_count E 0 ([(0, .ref 0), (1, .int 3)], [], h) = evR T_X0_count E 104 ([(0, .ref 0)], [], h) := fun E h => by rw [e_X0_count_0]; rfl
      have jm : ∀ E h, evR T_X4_count E 0 ([(0, .ref 153), (1, .int 3)], [], h) = evR T_X4_count E 89 ([(0, .ref 153)], [], h) := fun E h => by rw [e_X4_count_0]; rfl
      exact go (nI nr) (fun m' => by simp (disch := omega) only [c_X0_count, jx, e_X0_count_104, cond_true, cond_false, Option.bind_some, rI_s, rL_s, rR_s, rV_s, cnd_d, cnd_ne, cnd_eq, bI_d0, bI_t0, ite_not, decide_eq_false_iff_not, decide_eq_true_eq, lg_cmp_ge, lg_cmp_le, lg_cmp_gt, lg_cmp_lt, lg_cmp_eq, okb_1, okb_0, okb_b, eq_self, if_true, if_false, Bool.true_eq_false, Bool.false_eq_true, isO_X, rx_3, X_size, hRR.2.1]) (fun x' => by
        simp (disch := omega) only [c_X4_count, jm, e_X4_count_89, cond_true, cond_false, Option.bind_some, rI_s, rL_s, rR_s, rV_s, cnd_d, cnd_ne, cnd_eq, bI_d0, bI_t0, ite_not, decide_eq_false_iff_not, decide_eq_true_eq, lg_cmp_ge, lg_cmp_le, lg_cmp_gt, lg_cmp_lt, lg_cmp_eq, okb_1, okb_0, okb_b, eq_self, if_true, if_false, Bool.true_eq_false, Bool.false_eq_true, isO_M, rm_2, hRR.2.2.1])
    · have jx : ∀ E h, evR T_X0_count E 0 ([(0, .ref 0), (1, .int 4)], [], h) = evR T_X0_count E 112 ([(0, .ref 0)], [], h) := fun E h => by rw [e_X0_count_0]; rfl
      have jm : ∀ E h, evR T_X4_count E 0 ([(0, .ref 153), (1, .int 4)], [], h) = evR T_X4_count E 94 ([(0, .ref 153)], [], h) := fun E h => by rw [e_X4_count_0]; rfl
      exact go (oI fo) (fun m' => by simp (disch := omega) only [c_X0_count, jx, e_X0_count_112, cond_true, cond_false, Option.bind_some, rI_s, rL_s, rR_s, rV_s, cnd_d, cnd_ne, cnd_eq, bI_d0, bI_t0, ite_not, decide_eq_false_iff_not, decide_eq_true_eq, lg_cmp_ge, lg_cmp_le, lg_cmp_gt, lg_cmp_lt, lg_cmp_eq, okb_1, okb_0, okb_b, eq_self, if_true, if_false, Bool.true_eq_false, Bool.false_eq_true, isO_X, rx_4, hF.1]) (fun x' => by
        simp (disch := omega) only [c_X4_count, jm, e_X4_count_94, cond_true, cond_false, Option.bind_some, rI_s, rL_s, rR_s, rV_s, cnd_d, cnd_ne, cnd_eq, bI_d0, bI_t0, ite_not, decide_eq_false_iff_not, decide_eq_true_eq, lg_cmp_ge, lg_cmp_le, lg_cmp_gt, lg_cmp_lt, lg_cmp_eq, okb_1, okb_0, okb_b, eq_self, if_true, if_false, Bool.true_eq_false, Bool.false_eq_true, isO_M, rm_22, hF.2.1])
    · have jx : ∀ E h, evR T_X0_count E 0 ([(0, .ref 0), (1, .int 5)], [], h) = evR T_X0_count E 117 ([(0, .ref 0)], [], h) := fun E h => by rw [e_X0_count_0]; rfl
      have jm : ∀ E h, evR T_X4_count E 0 ([(0, .ref 153), (1, .int 5)], [], h) = evR T_X4_count E 99 ([(0, .ref 153)], [], h) := fun E h => by rw [e_X4_count_0]; rfl
      exact go (A.2.1 1) (fun m' => by simp (disch := omega) only [c_X0_count, jx, e_X0_count_117, cond_true, cond_false, Option.bind_some, rI_s, rL_s, rR_s, rV_s, cnd_d, cnd_ne, cnd_eq, bI_d0, bI_t0, ite_not, decide_eq_false_iff_not, decide_eq_true_eq, lg_cmp_ge, lg_cmp_le, lg_cmp_gt, lg_cmp_lt, lg_cmp_eq, okb_1, okb_0, okb_b, eq_self, if_true, if_false, Bool.true_eq_false, Bool.false_eq_true, isO_X, rx_1, r5]) (fun x' => by
        simp (disch := omega) only [c_X4_count, jm, e_X4_count_99, cond_true, cond_false, Option.bind_some, rI_s, rL_s, rR_s, rV_s, cnd_d, cnd_ne, cnd_eq, bI_d0, bI_t0, ite_not, decide_eq_false_iff_not, decide_eq_true_eq, lg_cmp_ge, lg_cmp_le, lg_cmp_gt, lg_cmp_lt, lg_cmp_eq, okb_1, okb_0, okb_b, eq_self, if_true, if_false, Bool.true_eq_false, Bool.false_eq_true, isO_M, rm_21, li_10, lm_10, hA.2.1.2.1])
    · have jx : ∀ E h, evR T_X0_count E 0 ([(0, .ref 0), (1, .int 6)], [], h) = evR T_X0_count E 125 ([(0, .ref 0)], [], h) := fun E h => by rw [e_X0_count_0]; rfl
      have jm : ∀ E h, evR T_X4_count E 0 ([(0, .ref 153), (1, .int 6)], [], h) = evR T_X4_count E 107 ([(0, .ref 153)], [], h) := fun E h => by rw [e_X4_count_0]; rfl
      exact go (nI (A.2.2 0)) (fun m' => by simp (disch := omega) only [c_X0_count, jx, e_X0_count_125, cond_true, cond_false, Option.bind_some, rI_s, rL_s, rR_s, rV_s, cnd_d, cnd_ne, cnd_eq, bI_d0, bI_t0, ite_not, decide_eq_false_iff_not, decide_eq_true_eq, lg_cmp_ge, lg_cmp_le, lg_cmp_gt, lg_cmp_lt, lg_cmp_eq, okb_1, okb_0, okb_b, eq_self, if_true, if_false, Bool.true_eq_false, Bool.false_eq_true, isO_X, rx_1, r6]) (fun x' => by
        simp (disch := omega) only [c_X4_count, jm, e_X4_count_107, cond_true, cond_false, Option.bind_some, rI_s, rL_s, rR_s, rV_s, cnd_d, cnd_ne, cnd_eq, bI_d0, bI_t0, ite_not, decide_eq_false_iff_not, decide_eq_true_eq, lg_cmp_ge, lg_cmp_le, lg_cmp_gt, lg_cmp_lt, lg_cmp_eq, okb_1, okb_0, okb_b, eq_self, if_true, if_false, Bool.true_eq_false, Bool.false_eq_true, isO_M, rm_21, li_11, lm_10, hA.2.2.1])
    · have jx : ∀ E h, evR T_X0_count E 0 ([(0, .ref 0), (1, .int 7)], [], h) = evR T_X0_count E 133 ([(0, .ref 0)], [], h) := fun E h => by rw [e_X0_count_0]; rfl
      have jm : ∀ E h, evR T_X4_count E 0 ([(0, .ref 153), (1, .int 7)], [], h) = evR T_X4_count E 115 ([(0, .ref 153)], [], h) := fun E h => by rw [e_X4_count_0]; rfl
      by_cases h0 : 0 < A.2.1 0
      · exact go (nI (A.2.2 1)) (fun m' => by simp (disch := omega) only [c_X0_count, jx, e_X0_count_133, e_X0_count_143, e_X0_count_154, cond_true, cond_false, Option.bind_some, rI_s, rL_s, rR_s, rV_s, cnd_d, cnd_ne, cnd_eq, bI_d0, bI_t0, ite_not, decide_eq_false_iff_not, decide_eq_true_eq, lg_cmp_ge, lg_cmp_le, lg_cmp_gt, lg_cmp_lt, lg_cmp_eq, okb_1, okb_0, okb_b, eq_self, if_true, if_false, Bool.true_eq_false, Bool.false_eq_true, isO_X, rx_1, ax, r7, h0, hX.2.2.2.2.1 h0]) (fun x' => by
          simp (disch := omega) only [c_X4_count, jm, e_X4_count_115, e_X4_count_122, e_X4_count_133, cond_true, cond_false, Option.bind_some, rI_s, rL_s, rR_s, rV_s, cnd_d, cnd_ne, cnd_eq, bI_d0, bI_t0, ite_not, decide_eq_false_iff_not, decide_eq_true_eq, lg_cmp_ge, lg_cmp_le, lg_cmp_gt, lg_cmp_lt, lg_cmp_eq, okb_1, okb_0, okb_b, eq_self, if_true, if_false, Bool.true_eq_false, Bool.false_eq_true, isO_M, rm_21, am, li_12, lm_10, h0, hA.2.2.2.1 h0])
      · exact go (-1) (fun m' => by simp (disch := omega) only [c_X0_count, jx, e_X0_count_133, e_X0_count_153, e_X0_count_154, cond_true, cond_false, Option.bind_some, rI_s, rL_s, rR_s, rV_s, cnd_d, cnd_ne, cnd_eq, bI_d0, bI_t0, ite_not, decide_eq_false_iff_not, decide_eq_true_eq, lg_cmp_ge, lg_cmp_le, lg_cmp_gt, lg_cmp_lt, lg_cmp_eq, okb_1, okb_0, okb_b, eq_self, if_true, if_false, Bool.true_eq_false, Bool.false_eq_true, isO_X, rx_1, ax, h0]) (fun x' => by
          simp (disch := omega) only [c_X4_count, jm, e_X4_count_115, e_X4_count_132, e_X4_count_133, cond_true, cond_false, Option.bind_some, rI_s, rL_s, rR_s, rV_s, cnd_d, cnd_ne, cnd_eq, bI_d0, bI_t0, ite_not, decide_eq_false_iff_not, decide_eq_true_eq, lg_cmp_ge, lg_cmp_le, lg_cmp_gt, lg_cmp_lt, lg_cmp_eq, okb_1, okb_0, okb_b, eq_self, if_true, if_false, Bool.true_eq_false, Bool.false_eq_true, isO_M, rm_21, am, h0])
    · have jx : ∀ E h, evR T_X0_count E 0 ([(0, .ref 0), (1, .int 8)], [], h) = evR T_X0_count E 155 ([(0, .ref 0)], [], h) := fun E h => by rw [e_X0_count_0]; rfl
      have jm : ∀ E h, evR T_X4_count E 0 ([(0, .ref 153), (1, .int 8)], [], h) = evR T_X4_count E 134 ([(0, .ref 153)], [], h) := fun E h => by rw [e_X4_count_0]; rfl
      exact go (A.2.1 0) (fun m' => by simp (disch := omega) only [c_X0_count, jx, e_X0_count_155, cond_true, cond_false, Option.bind_some, rI_s, rL_s, rR_s, rV_s, cnd_d, cnd_ne, cnd_eq, bI_d0, bI_t0, ite_not, decide_eq_false_iff_not, decide_eq_true_eq, lg_cmp_ge, lg_cmp_le, lg_cmp_gt, lg_cmp_lt, lg_cmp_eq, okb_1, okb_0, okb_b, eq_self, if_true, if_false, Bool.true_eq_false, Bool.false_eq_true, isO_X, rx_1, r8]) (fun x' => by
        simp (disch := omega) only [c_X4_count, jm, e_X4_count_134, cond_true, cond_false, Option.bind_some, rI_s, rL_s, rR_s, rV_s, cnd_d, cnd_ne, cnd_eq, bI_d0, bI_t0, ite_not, decide_eq_false_iff_not, decide_eq_true_eq, lg_cmp_ge, lg_cmp_le, lg_cmp_gt, lg_cmp_lt, lg_cmp_eq, okb_1, okb_0, okb_b, eq_self, if_true, if_false, Bool.true_eq_false, Bool.false_eq_true, isO_M, rm_21, li_13, lm_10, hA.2.1.1])
    · have jx : ∀ E h, evR T_X0_count E 0 ([(0, .ref 0), (1, .int 9)], [], h) = evR T_X0_count E 163 ([(0, .ref 0)], [], h) := fun E h => by rw [e_X0_count_0]; rfl
      have jm : ∀ E h, evR T_X4_count E 0 ([(0, .ref 153), (1, .int 9)], [], h) = evR T_X4_count E 142 ([(0, .ref 153)], [], h) := fun E h => by rw [e_X4_count_0]; rfl
      exact go (orI (hotB (A.1 1)) C.1) (fun m' => by simp (disch := omega) only [c_X0_count, jx, e_X0_count_163, cond_true, cond_false, Option.bind_some, rI_s, rL_s, rR_s, rV_s, cnd_d, cnd_ne, cnd_eq, bI_d0, bI_t0, ite_not, decide_eq_false_iff_not, decide_eq_true_eq, lg_cmp_ge, lg_cmp_le, lg_cmp_gt, lg_cmp_lt, lg_cmp_eq, okb_1, okb_0, okb_b, eq_self, if_true, if_false, Bool.true_eq_false, Bool.false_eq_true, isO_X, rx_1, fx]) (fun x' => by
        simp (disch := omega) only [c_X4_count, jm, e_X4_count_142, cond_true, cond_false, Option.bind_some, rI_s, rL_s, rR_s, rV_s, cnd_d, cnd_ne, cnd_eq, bI_d0, bI_t0, ite_not, decide_eq_false_iff_not, decide_eq_true_eq, lg_cmp_ge, lg_cmp_le, lg_cmp_gt, lg_cmp_lt, lg_cmp_eq, okb_1, okb_0, okb_b, eq_self, if_true, if_false, Bool.true_eq_false, Bool.false_eq_true, isO_M, fm])
    · have jx : ∀ E h, evR T_X0_count E 0 ([(0, .ref 0), (1, .int 10)], [], h) = evR T_X0_count E 171 ([(0, .ref 0)], [], h) := fun E h => by rw [e_X0_count_0]; rfl
      have jm : ∀ E h, evR T_X4_count E 0 ([(0, .ref 153), (1, .int 10)], [], h) = evR T_X4_count E 147 ([(0, .ref 153)], [], h) := fun E h => by rw [e_X4_count_0]; rfl
      exact go (sumI (A.1 0) C.1) (fun m' => by simp (disch := omega) only [c_X0_count, jx, e_X0_count_171, cond_true, cond_false, Option.bind_some, rI_s, rL_s, rR_s, rV_s, cnd_d, cnd_ne, cnd_eq, bI_d0, bI_t0, ite_not, decide_eq_false_iff_not, decide_eq_true_eq, lg_cmp_ge, lg_cmp_le, lg_cmp_gt, lg_cmp_lt, lg_cmp_eq, okb_1, okb_0, okb_b, eq_self, if_true, if_false, Bool.true_eq_false, Bool.false_eq_true, isO_X, rx_1, lx]) (fun x' => by
        simp (disch := omega) only [c_X4_count, jm, e_X4_count_147, cond_true, cond_false, Option.bind_some, rI_s, rL_s, rR_s, rV_s, cnd_d, cnd_ne, cnd_eq, bI_d0, bI_t0, ite_not, decide_eq_false_iff_not, decide_eq_true_eq, lg_cmp_ge, lg_cmp_le, lg_cmp_gt, lg_cmp_lt, lg_cmp_eq, okb_1, okb_0, okb_b, eq_self, if_true, if_false, Bool.true_eq_false, Bool.false_eq_true, isO_M, lm])
    · have jx : ∀ E h, evR T_X0_count E 0 ([(0, .ref 0), (1, .int 11)], [], h) = evR T_X0_count E 179 ([(0, .ref 0)], [], h) := fun E h => by rw [e_X0_count_0]; rfl
      have jm : ∀ E h, evR T_X4_count E 0 ([(0, .ref 153), (1, .int 11)], [], h) = evR T_X4_count E 152 ([(0, .ref 153)], [], h) := fun E h => by rw [e_X4_count_0]; rfl
      exact go (A.2.1 3) (fun m' => by simp (disch := omega) only [c_X0_count, jx, e_X0_count_179, cond_true, cond_false, Option.bind_some, rI_s, rL_s, rR_s, rV_s, cnd_d, cnd_ne, cnd_eq, bI_d0, bI_t0, ite_not, decide_eq_false_iff_not, decide_eq_true_eq, lg_cmp_ge, lg_cmp_le, lg_cmp_gt, lg_cmp_lt, lg_cmp_eq, okb_1, okb_0, okb_b, eq_self, if_true, if_false, Bool.true_eq_false, Bool.false_eq_true, isO_X, rx_1, gx]) (fun x' => by
        simp (disch := omega) only [c_X4_count, jm, e_X4_count_152, cond_true, cond_false, Option.bind_some, rI_s, rL_s, rR_s, rV_s, cnd_d, cnd_ne, cnd_eq, bI_d0, bI_t0, ite_not, decide_eq_false_iff_not, decide_eq_true_eq, lg_cmp_ge, lg_cmp_le, lg_cmp_gt, lg_cmp_lt, lg_cmp_eq, okb_1, okb_0, okb_b, eq_self, if_true, if_false, Bool.true_eq_false, Bool.false_eq_true, isO_M, gm])
    · have jx : ∀ E h, evR T_X0_count E 0 ([(0, .ref 0), (1, .int 12)], [], h) = evR T_X0_count E 187 ([(0, .ref 0)], [], h) := fun E h => by rw [e_X0_count_0]; rfl
      have jm : ∀ E h, evR T_X4_count E 0 ([(0, .ref 153), (1, .int 12)], [], h) = evR T_X4_count E 157 ([(0, .ref 153)], [], h) := fun E h => by rw [e_X4_count_0]; rfl
      exact go (nI n) (fun m' => by simp (disch := omega) only [c_X0_count, jx, e_X0_count_187, cond_true, cond_false, Option.bind_some, rI_s, rL_s, rR_s, rV_s, cnd_d, cnd_ne, cnd_eq, bI_d0, bI_t0, ite_not, decide_eq_false_iff_not, decide_eq_true_eq, lg_cmp_ge, lg_cmp_le, lg_cmp_gt, lg_cmp_lt, lg_cmp_eq, okb_1, okb_0, okb_b, eq_self, if_true, if_false, Bool.true_eq_false, Bool.false_eq_true, isO_X, rx_10, hN.2.1]) (fun x' => by
        simp (disch := omega) only [c_X4_count, jm, e_X4_count_157, cond_true, cond_false, Option.bind_some, rI_s, rL_s, rR_s, rV_s, cnd_d, cnd_ne, cnd_eq, bI_d0, bI_t0, ite_not, decide_eq_false_iff_not, decide_eq_true_eq, lg_cmp_ge, lg_cmp_le, lg_cmp_gt, lg_cmp_lt, lg_cmp_eq, okb_1, okb_0, okb_b, eq_self, if_true, if_false, Bool.true_eq_false, Bool.false_eq_true, isO_M, rm_21, li_131, lm_10, hN.2.2.1])
    · have jx : ∀ E h, evR T_X0_count E 0 ([(0, .ref 0), (1, .int 13)], [], h) = evR T_X0_count E 192 ([(0, .ref 0)], [], h) := fun E h => by rw [e_X0_count_0]; rfl
      have jm : ∀ E h, evR T_X4_count E 0 ([(0, .ref 153), (1, .int 13)], [], h) = evR T_X4_count E 166 ([(0, .ref 153)], [], h) := fun E h => by rw [e_X4_count_0]; rfl
      exact go (nI u) (fun m' => by simp (disch := omega) only [c_X0_count, jx, e_X0_count_192, cond_true, cond_false, Option.bind_some, rI_s, rL_s, rR_s, rV_s, cnd_d, cnd_ne, cnd_eq, bI_d0, bI_t0, ite_not, decide_eq_false_iff_not, decide_eq_true_eq, lg_cmp_ge, lg_cmp_le, lg_cmp_gt, lg_cmp_lt, lg_cmp_eq, okb_1, okb_0, okb_b, eq_self, if_true, if_false, Bool.true_eq_false, Bool.false_eq_true, isO_X, rx_20, hP.2.2.1]) (fun x' => by
        simp (disch := omega) only [c_X4_count, jm, e_X4_count_166, cond_true, cond_false, Option.bind_some, rI_s, rL_s, rR_s, rV_s, cnd_d, cnd_ne, cnd_eq, bI_d0, bI_t0, ite_not, decide_eq_false_iff_not, decide_eq_true_eq, lg_cmp_ge, lg_cmp_le, lg_cmp_gt, lg_cmp_lt, lg_cmp_eq, okb_1, okb_0, okb_b, eq_self, if_true, if_false, Bool.true_eq_false, Bool.false_eq_true, isO_M, rm_31, hP.2.2.2.1])
    · have jx : ∀ E h, evR T_X0_count E 0 ([(0, .ref 0), (1, .int 14)], [], h) = evR T_X0_count E 197 ([(0, .ref 0)], [], h) := fun E h => by rw [e_X0_count_0]; rfl
      have jm : ∀ E h, evR T_X4_count E 0 ([(0, .ref 153), (1, .int 14)], [], h) = evR T_X4_count E 171 ([(0, .ref 153)], [], h) := fun E h => by rw [e_X4_count_0]; rfl
      exact go (m.1 23) (fun m' => by simp (disch := omega) only [c_X0_count, jx, e_X0_count_197, cond_true, cond_false, Option.bind_some, rI_s, rL_s, rR_s, rV_s, cnd_d, cnd_ne, cnd_eq, bI_d0, bI_t0, ite_not, decide_eq_false_iff_not, decide_eq_true_eq, lg_cmp_ge, lg_cmp_le, lg_cmp_gt, lg_cmp_lt, lg_cmp_eq, okb_1, okb_0, okb_b, eq_self, if_true, if_false, Bool.true_eq_false, Bool.false_eq_true, isO_X, rx_11, hD.1]) (fun x' => by
        simp (disch := omega) only [c_X4_count, jm, e_X4_count_171, cond_true, cond_false, Option.bind_some, rI_s, rL_s, rR_s, rV_s, cnd_d, cnd_ne, cnd_eq, bI_d0, bI_t0, ite_not, decide_eq_false_iff_not, decide_eq_true_eq, lg_cmp_ge, lg_cmp_le, lg_cmp_gt, lg_cmp_lt, lg_cmp_eq, okb_1, okb_0, okb_b, eq_self, if_true, if_false, Bool.true_eq_false, Bool.false_eq_true, isO_M, rm_23])
    · have jx : ∀ E h, evR T_X0_count E 0 ([(0, .ref 0), (1, .int 15)], [], h) = evR T_X0_count E 202 ([(0, .ref 0)], [], h) := fun E h => by rw [e_X0_count_0]; rfl
      have jm : ∀ E h, evR T_X4_count E 0 ([(0, .ref 153), (1, .int 15)], [], h) = evR T_X4_count E 176 ([(0, .ref 153)], [], h) := fun E h => by rw [e_X4_count_0]; rfl
      exact go (nI t) (fun m' => by simp (disch := omega) only [c_X0_count, jx, e_X0_count_202, cond_true, cond_false, Option.bind_some, rI_s, rL_s, rR_s, rV_s, cnd_d, cnd_ne, cnd_eq, bI_d0, bI_t0, ite_not, decide_eq_false_iff_not, decide_eq_true_eq, lg_cmp_ge, lg_cmp_le, lg_cmp_gt, lg_cmp_lt, lg_cmp_eq, okb_1, okb_0, okb_b, eq_self, if_true, if_false, Bool.true_eq_false, Bool.false_eq_true, isO_X, rx_7, hT.2.1]) (fun x' => by
        simp (disch := omega) only [c_X4_count, jm, e_X4_count_176, cond_true, cond_false, Option.bind_some, rI_s, rL_s, rR_s, rV_s, cnd_d, cnd_ne, cnd_eq, bI_d0, bI_t0, ite_not, decide_eq_false_iff_not, decide_eq_true_eq, lg_cmp_ge, lg_cmp_le, lg_cmp_gt, lg_cmp_lt, lg_cmp_eq, okb_1, okb_0, okb_b, eq_self, if_true, if_false, Bool.true_eq_false, Bool.false_eq_true, isO_M, rm_1, hT.2.2.1])
  · simp only [List.mem_cons, List.not_mem_nil, or_false, not_or] at hv
    obtain ⟨v0, v1, v2, v3, v4, v5, v6, v7, v8, v9, v10, v11, v12, v13, v14, v15⟩ := hv
    have jx : ∀ E h, evR T_X0_count E 0 ([(0, .ref 0), (1, .int v)], [], h) = evR T_X0_count E 207 ([], [], h) := fun E h => by rw [e_X0_count_0, cnd_eq, if_neg v0, cnd_eq, if_neg v1, cnd_eq, if_neg v2, cnd_eq, if_neg v3, cnd_eq, if_neg v4, cnd_eq, if_neg v5, cnd_eq, if_neg v6, cnd_eq, if_neg v7, cnd_eq, if_neg v8, cnd_eq, if_neg v9, cnd_eq, if_neg v10, cnd_eq, if_neg v11, cnd_eq, if_neg v12, cnd_eq, if_neg v13, cnd_eq, if_neg v14, cnd_eq, if_neg v15]
    have jm : ∀ E h, evR T_X4_count E 0 ([(0, .ref 153), (1, .int v)], [], h) = evR T_X4_count E 181 ([], [], h) := fun E h => by rw [e_X4_count_0, cnd_eq, if_neg v0, cnd_eq, if_neg v1, cnd_eq, if_neg v2, cnd_eq, if_neg v3, cnd_eq, if_neg v4, cnd_eq, if_neg v5, cnd_eq, if_neg v6, cnd_eq, if_neg v7, cnd_eq, if_neg v8, cnd_eq, if_neg v9, cnd_eq, if_neg v10, cnd_eq, if_neg v11, cnd_eq, if_neg v12, cnd_eq, if_neg v13, cnd_eq, if_neg v14, cnd_eq, if_neg v15]
    exact go (-1) (fun m' => by simp (disch := omega) only [c_X0_count, jx, e_X0_count_207, cond_true, cond_false, Option.bind_some, rI_s, rL_s, rR_s, rV_s, cnd_d, cnd_ne, cnd_eq, bI_d0, bI_t0, ite_not, decide_eq_false_iff_not, decide_eq_true_eq, lg_cmp_ge, lg_cmp_le, lg_cmp_gt, lg_cmp_lt, lg_cmp_eq, okb_1, okb_0, okb_b, eq_self, if_true, if_false, Bool.true_eq_false, Bool.false_eq_true, isO_X]) (fun x' => by simp (disch := omega) only [c_X4_count, jm, e_X4_count_181, cond_true, cond_false, Option.bind_some, rI_s, rL_s, rR_s, rV_s, cnd_d, cnd_ne, cnd_eq, bI_d0, bI_t0, ite_not, decide_eq_false_iff_not, decide_eq_true_eq, lg_cmp_ge, lg_cmp_le, lg_cmp_gt, lg_cmp_lt, lg_cmp_eq, okb_1, okb_0, okb_b, eq_self, if_true, if_false, Bool.true_eq_false, Bool.false_eq_true, isO_M])
