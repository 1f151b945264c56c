theorem i_max0 (v : Int32) : (if 0 < v then v else 0) = if v < 0 then 0 else v := by
  by_cases h : 0 < v
  · rw [if_pos h, if_neg (Int32.not_lt.mpr (Int32.le_of_lt h))]
  · rw [if_neg h]
    by_cases h2 : v < 0
    · rw [if_pos h2]
    · rw [if_neg h2]
      exact (Int32.le_antisymm (Int32.not_lt.mp h) (Int32.not_lt.mp h2)).symm
theorem WA_step {C : AC} {B : AA} (hB : WA C B) : WA C (stepA B) := by
  unfold stepA
  split
  · split
    next h => exact ⟨hB.1, hB.2.1, hB.2.2.1, fun _ => hB.2.2.2.1 (by assumption), hB.2.2.2.2⟩
    next h0 h => exact ⟨hB.1, hB.2.1, (hB.2.2.2.1 h0).2, fun hx => absurd hx h, hB.2.2.2.2⟩
  · exact hB
theorem X_come (k : Nat) (d : AH) (x : XS) (m : MS) (t : Nat) (ht : t < 22) (C : AC) (A : AA) (hW : WA C A) (h6 : C.1 ≤ 6) (hA : XA C A x t) : ∃ x', evR T_X0_brigade (callR (k + 2)) 49 ([(1, .ref (sAd t))], [], P d x m) = some (.inl (some (.int (comeA (stepA A)).2)), P d x' m) ∧ FX t x x' ∧ XA C (comeA (stepA A)).1 x' t ∧ (comeA (stepA A)).1.2.2 2 = A.2.2 2 := by
  have hrow : (stepA A).2.2 2 = A.2.2 2 := by
    unfold stepA
    split
    · split
      · rfl
      · simp [va_up]
    · rfl
  obtain ⟨s1, e1, v1, ea⟩ := X_goesOn k (P d x m) (sAd t) (x.2.2.2.1 t) (P_len d x m t ht) C A hA.1
  rw [P_g d x m t ht, P_s d x m t ht] at e1
  have hg : ∀ B : AA, VX C B s1 → (0 < B.2.1 0 ∨ B.2.2 0 ≤ C.1) → ∃ x', evR T_X0_brigade (callR (k + 2)) 49 ([(1, .ref (sAd t))], [], P d x m) = some (.inl (some (.int (comeA B).2)), P d x' m) ∧ FX t x x' ∧ VX C (comeA B).1 (x'.2.2.2.1 t) ∧ (comeA B).1.2.2 2 = B.2.2 2 ∧ x'.1 16 = x.1 16 := by
    intro B hB hpB
    obtain ⟨a1, az, ⟨a8, a9, a5⟩, a6, a7, ag⟩ := id hB
    have eaw := X_isAway (k + 1) (P d (xS x t s1) m) (sAd t) s1 (P_len d _ m t ht)
    rw [P_s d (xS x t s1) m t ht, xS_S, a8] at eaw
    by_cases hc : 0 < B.2.1 0 ∨ B.2.2 0 = 0
    · have e : comeA B = (B, -1) := by unfold comeA; rw [if_pos hc]
      rw [e]
      refine ⟨xS x t s1, ?_, xS_FX x t s1, by rw [xS_s]; exact hB, rfl, rfl⟩
      by_cases h0 : 0 < B.2.1 0
      · simp (disch := omega) only [e_X0_brigade_49, e_X0_brigade_60, e_X0_brigade_67, e_X0_brigade_69, e_X0_brigade_85, e_X0_brigade_89, e_X0_brigade_90, c_X0_brigade, cond_true, cond_false, Option.bind_some, rI_s, rL_s, rR_s, rV_s, cnd_d, cnd_ne, cnd_eq, bI_d0, bI_t0, ite_not, decide_eq_false_iff_not, decide_eq_true_eq, lg_cmp_ge, lg_cmp_le, lg_cmp_gt, lg_cmp_lt, lg_cmp_eq, okb_1, okb_0, okb_b, e1, eaw, h0, if_true]
      · have hz : B.2.2 0 = 0 := hc.elim (fun h => absurd h h0) id
        simp (disch := omega) only [e_X0_brigade_49, e_X0_brigade_60, e_X0_brigade_67, e_X0_brigade_69, e_X0_brigade_85, e_X0_brigade_89, e_X0_brigade_90, c_X0_brigade, cond_true, cond_false, Option.bind_some, rI_s, rL_s, rR_s, rV_s, cnd_d, cnd_ne, cnd_eq, bI_d0, bI_t0, ite_not, decide_eq_false_iff_not, decide_eq_true_eq, lg_cmp_ge, lg_cmp_le, lg_cmp_gt, lg_cmp_lt, lg_cmp_eq, okb_1, okb_0, okb_b, P_isO, rp_0, rp_1, rp_2, rp_3, rp_4, rp_5, rp_6, rp_7, rp_8, rp_9, lp_0, lp_1, lp_2, lp_3, lp_4, sp_0, sp_1, sp_2, sp_3, sp_4, wp_5, wp_6, wp_7, wp_8, wp_9, e1, eaw, h0, if_false, xS_s, a6, hz, nI_0, if_true]
    · have h0 : ¬ 0 < B.2.1 0 := fun h => hc (Or.inl h)
      have hz : B.2.2 0 ≠ 0 := fun h => hc (Or.inr h)
      have hpB' := hpB.elim (fun h => absurd h h0) id
      obtain ⟨q, eq⟩ : ∃ q, B.2.2 0 = q + 1 := ⟨B.2.2 0 - 1, by omega⟩
      have hq : q < C.1 := by omega
      obtain ⟨b0, b1, b2, b3⟩ := a1 q hq
      have ec : comeA B = ((va_up (va_up B.1 3 (va_up (B.1 3) q (B.1 3 q + 1))) 1 (va_up (B.1 1) q (if B.1 1 q - B.2.1 2 < 0 then 0 else B.1 1 q - B.2.1 2)), B.2.1, B.2.2), if 0 < B.1 1 q then nI q else -1) := by
        unfold comeA
        rw [if_neg hc, eq]
        rfl
      rw [ec]
      refine ⟨xS x t (sA (sA s1 1 q (if B.1 1 q - B.2.1 2 < 0 then 0 else B.1 1 q - B.2.1 2)) 4 q (B.1 3 q + 1)), ?_, xS_FX _ _ _, ?_, rfl, rfl⟩
      · have hnz : ¬ nI (q + 1) = 0 := by rw [← nI_0, nI_eqP (by omega) (by omega)]; omega
        simp (disch := omega) only [e_X0_brigade_49, e_X0_brigade_60, e_X0_brigade_67, e_X0_brigade_69, e_X0_brigade_85, e_X0_brigade_89, c_X0_brigade, cond_true, cond_false, Option.bind_some, rI_s, rL_s, rR_s, rV_s, cnd_d, cnd_ne, cnd_eq, bI_d0, bI_t0, ite_not, decide_eq_false_iff_not, decide_eq_true_eq, lg_cmp_ge, lg_cmp_le, lg_cmp_gt, lg_cmp_lt, lg_cmp_eq, okb_1, okb_0, okb_b, li_2, li_3, li_4, li_5, li_6, li_7, li_8, li_9, li_10, li_11, li_12, li_13, li_14, li_15, li_16, li_18, li_20, li_22, li_24, li_25, li_26, li_28, li_32, li_38, li_40, li_43, li_44, li_45, li_46, li_47, li_48, li_49, li_50, li_54, li_56, li_59, li_60, li_61, li_64, li_91, li_93, li_99, li_100, li_111, li_112, li_117, li_122, li_123, li_131, li_132, li_200, li_255, li_256, li_400, li_560, li_9999, li_10000, li_99999, li_65536, pk_mul, nI_add, nI_1, neg_lt0, neg_le0, nI_nn, nI_nlt0, P_isO, rp_0, rp_1, rp_2, rp_3, rp_4, rp_5, rp_6, rp_7, rp_8, rp_9, lp_0, lp_1, lp_2, lp_3, lp_4, sp_0, sp_1, sp_2, sp_3, sp_4, wp_5, wp_6, wp_7, wp_8, wp_9, e1, eaw, h0, if_false, xS_s, xS_S, a6, eq, hnz, nI_pred, b1]
        have e90 : ∀ v : Int32, evR T_X0_brigade (callR (k + 2)) 90 ([(1, .ref (sAd t)), (2, .int (nI q))], [.int v], P d (xS x t s1) m) = some (.inl (some (.int v)), P d (xS x t (sA (sA s1 1 q (if B.1 1 q - B.2.1 2 < 0 then 0 else B.1 1 q - B.2.1 2)) 4 q (B.1 3 q + 1))) m) := by
          intro v
          simp (disch := omega) only [e_X0_brigade_90, cond_true, cond_false, Option.bind_some, rI_s, rL_s, rR_s, rV_s, cnd_d, cnd_ne, cnd_eq, bI_d0, bI_t0, ite_not, decide_eq_false_iff_not, decide_eq_true_eq, lg_cmp_ge, lg_cmp_le, lg_cmp_gt, lg_cmp_lt, lg_cmp_eq, okb_1, okb_0, okb_b, li_2, li_3, li_4, li_5, li_6, li_7, li_8, li_9, li_10, li_11, li_12, li_13, li_14, li_15, li_16, li_18, li_20, li_22, li_24, li_25, li_26, li_28, li_32, li_38, li_40, li_43, li_44, li_45, li_46, li_47, li_48, li_49, li_50, li_54, li_56, li_59, li_60, li_61, li_64, li_91, li_93, li_99, li_100, li_111, li_112, li_117, li_122, li_123, li_131, li_132, li_200, li_255, li_256, li_400, li_560, li_9999, li_10000, li_99999, li_65536, pk_mul, nI_add, nI_1, neg_lt0, neg_le0, nI_nn, nI_nlt0, P_isO, rp_0, rp_1, rp_2, rp_3, rp_4, rp_5, rp_6, rp_7, rp_8, rp_9, lp_0, lp_1, lp_2, lp_3, lp_4, sp_0, sp_1, sp_2, sp_3, sp_4, wp_5, wp_6, wp_7, wp_8, wp_9, xS_s, xS_S, b1, a5, sA_o, b3, i_max0]
        rw [e90, e90]
        by_cases hh : 0 < B.1 1 q
        · rw [if_neg (Int32.not_le.mpr hh), if_pos hh]
        · rw [if_pos (Int32.not_lt.mp hh), if_neg hh]
      · rw [xS_s]
        refine ⟨fun h hh => ?_, fun h hn hh => ?_, ⟨a8, a9, a5⟩, a6, a7, ?_⟩
        · obtain ⟨c0, c1, c2, c3⟩ := a1 h hh
          refine ⟨?_, ?_, ?_, ?_⟩
          · rw [sA_o _ _ _ _ _ (by omega), sA_o _ _ _ _ _ (by omega), c0]; simp [va_up]
          · rw [sA_o _ _ _ _ _ (by omega)]
            show _ = va_up (B.1 1) q _ h
            by_cases e : h = q
            · subst e; rw [sA_s, va_up_self]
            · rw [sA_n _ _ _ _ _ e, va_up_ne _ _ e, c1]
          · rw [sA_o _ _ _ _ _ (by omega), sA_o _ _ _ _ _ (by omega), c2]; simp [va_up]
          · show _ = va_up (B.1 3) q _ h
            by_cases e : h = q
            · subst e; rw [sA_s, va_up_self]
            · rw [sA_n _ _ _ _ _ e, va_up_ne _ _ e, sA_o _ _ _ _ _ (by omega), c3]
        · obtain ⟨c0, c1⟩ := az h hn hh
          exact ⟨by rw [sA_o _ _ _ _ _ (by omega), sA_o _ _ _ _ _ (by omega), c0], by rw [sA_o _ _ _ _ _ (by omega), sA_n _ _ _ _ _ (by omega), c1]⟩
        · rw [sA_o _ _ _ _ _ (by omega), sA_o _ _ _ _ _ (by omega)]
          refine ⟨ag.1, fun h hh => ?_⟩
          rw [ag.2 h hh]
          simp [va_up]
  obtain ⟨x', e', f', v', r', g'⟩ := hg (stepA A) v1 (Or.inr (WA_step hW).2.2.1)
  refine ⟨x', e', f', ⟨v', fun hq => ?_⟩, by rw [r', hrow]⟩
  rw [g', hA.2 hq, r', hrow]
theorem WA_tg {C : AC} {A : AA} (hW : WA C A) : WA C (sendA C (rowA A (tgA C A).2) (tgA C A).1) := by
  have htg := tg_lt hW
  have hR : WA C (rowA A (tgA C A).2) := by
    refine ⟨hW.1, hW.2.1, hW.2.2.1, hW.2.2.2.1, fun q eq => ⟨?_, (hW.2.2.2.2 q eq).2⟩⟩
    show va_up A.2.2 2 (tgA C A).2 2 ≤ q.1
    rw [va_up_self]
    have hq := hW.2.2.2.2 q eq
    unfold tgA
    rw [eq]
    have := (nextR_lt (R := rA C A) (row := q.2) (k := C.1) (q.1 - A.2.2 2) (A.2.2 2) fun j hj => hq.2 j (by omega)).2.2
    show (nextR (rA C A) q.2 (q.1 - A.2.2 2) (A.2.2 2)).2 ≤ q.1
    omega
  unfold sendA
  split
  · exact hR
  next h eh =>
    split
    · exact hR
    · exact ⟨hR.1, hR.2.1, hR.2.2.1, fun _ => ⟨by show 1 ≤ h + 1; omega, by show h + 1 ≤ C.1; have := htg h eh; omega⟩, hR.2.2.2.2⟩
theorem VX_tick {C : AC} {A : AA} {s : SS} (h : VX C A s) : VX C (tickA A) (sF s 9 (s.2 9 + 1)) := by
  obtain ⟨a1, az, ⟨a8, a9, a5⟩, a6, a7, ag⟩ := h
  have t0 : (tickA A).2.1 0 = A.2.1 0 := by simp [tickA, va_up]
  have t1 : (tickA A).2.1 1 = A.2.1 1 + 1 := by simp [tickA, va_up]
  have t2 : (tickA A).2.1 2 = A.2.1 2 := by simp [tickA, va_up]
  have t3 : (tickA A).2.1 3 = A.2.1 3 := by simp [tickA, va_up]
  refine ⟨a1, az, ⟨?_, ?_, ?_⟩, ?_, fun hx => ?_, ?_⟩
  · rw [t0, sF_n _ _ _ _ (by omega)]; exact a8
  · rw [t1, sF_s, a9]
  · rw [t2, sF_n _ _ _ _ (by omega)]; exact a5
  · rw [sF_n _ _ _ _ (by omega)]; exact a6
  · rw [t0] at hx
    rw [sF_n _ _ _ _ (by omega)]; exact a7 hx
  · rw [t3]; exact ag
theorem X_brigade (k : Nat) (d : AH) (x : XS) (m : MS) (t : Nat) (ht : t < 22) (C : AC) (A : AA) (hW : WA C A) (hC : XC d C x) (hA : XA C A x t) : ∃ x', callR (k + 203) n_X0_brigade [.ref 0, .ref (sAd t)] (P d x m) = some (.inl (some (.int (cameA C A))), P d x' m) ∧ FX t x x' ∧ XA C (comeA (goA C A)).1 x' t := by
  have h6 := hC.2.1
  have hp := hW.2.2.1
  have eaw := X_isAway (k + 201) (P d x m) (sAd t) (x.2.2.2.1 t) (P_len d _ m t ht)
  rw [P_g d x m t ht, hA.1.2.2.1.1] at eaw
  have eat := X_isAtFire (k + 200) (P d x m) (sAd t) (x.2.2.2.1 t) (P_len d _ m t ht) C A h6 hp hA.1
  rw [P_g d x m t ht] at eat
  have hgo : cameA C A = (comeA (goA C A)).2 := rfl
  rw [hgo]
  unfold goA
  by_cases hb : busyA A = true
  · rw [if_pos hb]
    obtain ⟨x', e', f', v', -⟩ := X_come (k + 200) d x m t ht C A hW h6 hA
    refine ⟨x', ?_, f', v'⟩
    rw [← e']
    by_cases h0 : 0 < A.2.1 0
    · simp (disch := omega) only [c_X0_brigade, e_X0_brigade_0, cond_true, cond_false, Option.bind_some, rI_s, rL_s, rR_s, rV_s, cnd_d, cnd_ne, cnd_eq, bI_d0, bI_t0, ite_not, decide_eq_false_iff_not, decide_eq_true_eq, lg_cmp_ge, lg_cmp_le, lg_cmp_gt, lg_cmp_lt, lg_cmp_eq, okb_1, okb_0, okb_b, isO_X, eaw, h0, if_true]
    · have hb2 : ¬ 0 < A.2.1 0 ∧ A.2.2 0 ≠ 0 ∧ 0 < A.1 1 (A.2.2 0 - 1) := ⟨h0, (of_decide_eq_true hb).resolve_left h0⟩
      simp (disch := omega) only [c_X0_brigade, e_X0_brigade_0, e_X0_brigade_7, cond_true, cond_false, Option.bind_some, rI_s, rL_s, rR_s, rV_s, cnd_d, cnd_ne, cnd_eq, bI_d0, bI_t0, ite_not, decide_eq_false_iff_not, decide_eq_true_eq, lg_cmp_ge, lg_cmp_le, lg_cmp_gt, lg_cmp_lt, lg_cmp_eq, okb_1, okb_0, okb_b, isO_X, eaw, h0, if_false, eat]
      rw [if_pos ⟨not_false, hb2.2⟩]
  · rw [if_neg hb]
    have h0 : ¬ 0 < A.2.1 0 := fun h => hb (decide_eq_true (Or.inl h))
    have hn : ¬ (¬ 0 < A.2.1 0 ∧ A.2.2 0 ≠ 0 ∧ 0 < A.1 1 (A.2.2 0 - 1)) := fun h => hb (decide_eq_true (Or.inr h.2))
    obtain ⟨x1, e1, f1, v1⟩ := X_tg k d x m t ht C A hW hC hA
    have hW1 : WA C (sendA C (rowA A (tgA C A).2) (tgA C A).1) := WA_tg hW
    obtain ⟨x', e', f', v', -⟩ := X_come (k + 200) d x1 m t ht C _ hW1 h6 v1
    refine ⟨x', ?_, FX_trans f1 f', v'⟩
    rw [← e', ← e1]
    simp (disch := omega) only [c_X0_brigade, e_X0_brigade_0, e_X0_brigade_7, cond_true, cond_false, Option.bind_some, rI_s, rL_s, rR_s, rV_s, cnd_d, cnd_ne, cnd_eq, bI_d0, bI_t0, ite_not, decide_eq_false_iff_not, decide_eq_true_eq, lg_cmp_ge, lg_cmp_le, lg_cmp_gt, lg_cmp_lt, lg_cmp_eq, okb_1, okb_0, okb_b, isO_X, eaw, h0, if_false, eat]
    rw [if_neg (fun h => hn ⟨h0, h.2⟩)]
theorem X_hour (k : Nat) (d : AH) (x : XS) (m : MS) (t : Nat) (ht : t < 22) (C : AC) (A : AA) (hW : WA C A) (hC : XC d C x) (hA : XA C A x t) : ∃ x', callR (k + 204) n_X0_goesOn [.ref 0, .ref (sAd t)] (P d x m) = some (.inl (some (.int (lossA C A))), P d x' m) ∧ FX t x x' ∧ x'.1 18 = cameA C A ∧ XA C (hourA C A) x' t := by
  have h6 := hC.2.1
  obtain ⟨x1, e1, f1, v1⟩ := X_brigade k d x m t ht C A hW hC hA
  have hW2 := WA_come (WA_go hW)
  have hC1 := XC_fr hC f1
  have hC2 : XC d C (xF x1 18 (cameA C A)) := XC_fr (t := t) hC1 (xF_FX _ _ _ _ (by omega))
  have hbe : ∃ bes : Nat → Int32, (∀ s, ∃ be, rdR (sput (P d (xF x1 18 (cameA C A)) m) (sAd t) s) (x1.2.2.2.2.1 0) 1 2 = some be ∧ (∀ i, i < 6 → ldI (sput (P d (xF x1 18 (cameA C A)) m) (sAd t) s) be 0 (nI i) = some (bes i))) ∧ ∀ i, i < C.1 → bes i = C.2.2.1 i := by
    obtain ⟨bes, h1, h2⟩ := hC1.1.2
    refine ⟨bes, fun s => ?_, h2⟩
    rw [P_s _ _ _ _ ht]
    exact h1 _ _
  obtain ⟨s2, e2, v2⟩ := X_burn (k + 201) (P d (xF x1 18 (cameA C A)) m) (sAd t) (x1.2.2.2.2.1 0) C _ (x1.2.2.2.1 t) (P_len d _ m t ht) (VP_s hC2.1 _ m t ht) hbe h6 hW2 v1.1
  have eg : sput (P d (xF x1 18 (cameA C A)) m) (sAd t) (x1.2.2.2.1 t) = P d (xF x1 18 (cameA C A)) m := P_g d (xF x1 18 (cameA C A)) m t ht
  rw [eg, P_s _ _ _ _ ht] at e2
  refine ⟨xS (xF x1 18 (cameA C A)) t (sF s2 9 (s2.2 9 + 1)), ?_, FX_trans f1 (FX_trans (xF_FX _ _ _ _ (by omega)) (xS_FX _ _ _)), by rw [xS_1, xF_s], ?_⟩
  · simp (disch := omega) only [e_X0_goesOn_0, c_X0_goesOn, cond_true, cond_false, Option.bind_some, rI_s, rL_s, rR_s, rV_s, cnd_d, cnd_ne, cnd_eq, bI_d0, bI_t0, ite_not, decide_eq_false_iff_not, decide_eq_true_eq, lg_cmp_ge, lg_cmp_le, lg_cmp_gt, lg_cmp_lt, lg_cmp_eq, okb_1, okb_0, okb_b, P_isO, rp_0, rp_1, rp_2, rp_3, rp_4, rp_5, rp_6, rp_7, rp_8, rp_9, lp_0, lp_1, lp_2, lp_3, lp_4, sp_0, sp_1, sp_2, sp_3, sp_4, wp_5, wp_6, wp_7, wp_8, wp_9, isO_X, e1, wx_18, rx_0, xF_2, e2, xS_s, xS_S]
    rfl
  · obtain ⟨a1, az, ⟨a8, a9, a5⟩, a6, a7, ag⟩ := v2
    have hrow : (comeA (goA C A)).1.2.2 2 = (hourA C A).2.2 2 := rfl
    refine ⟨?_, fun hq => ?_⟩
    · rw [xS_s]
      exact VX_tick ⟨a1, az, ⟨a8, a9, a5⟩, a6, a7, ag⟩
    · rw [← hrow]
      have := v1.2 hq
      rw [← this]
      rw [xS_1, xF_n _ _ _ _ (by omega)]
