/-! x: what is asked -/
theorem X_asks (k : Nat) (d : AH) (x : XS) (m : MS) (t : Nat) (ht : t < 22) (C : AC) (A : AA) (hp : A.2.2 0 ≤ C.1) (hC : XC d C x) (hA : XA C A x t) (h : Nat) (hh : h < C.1) (hr : rA C A h = true) : ∃ x', callR (k + 2) n_X0_asks [.ref 0, .ref (sAd t), .int (nI h)] (P d x m) = some (.inl none, P d x' m) ∧ WX x x' ∧ (fun i => if i < 11 then x'.2.2.1 i else 0) = wdA C A h := by
  have h6 := hC.2.1
  obtain ⟨a1, az, ⟨a8, a9, a5⟩, a6, a7, ag⟩ := id hA.1
  obtain ⟨b0, b1, b2, b3⟩ := a1 h hh
  obtain ⟨bes, hb1, hb2⟩ := hC.1.2
  have hfi : orI (hotB ((x.2.2.2.1 t).1 1)) 6 = orI (hotB (A.1 1)) C.1 := orI_6 h6 (fun i hi => hotB_c (a1 i hi).2.1) (fun i hi h6 => by unfold hotB; rw [(az i hi h6).2]; rfl)
  have hm1 : ∀ (i : Nat) (v : Int64) (x : XS), (xW x i v).2.2.2 = x.2.2.2 := fun _ _ _ => rfl
  have hL0 : ∀ x v, stL (P d x m) 24 (0 : Int32) v = some (P d (xW x 0 v) m) := fun x v => sx_24 d x m 0 v (by omega)
  have hL1 : ∀ x v, stL (P d x m) 24 (1 : Int32) v = some (P d (xW x 1 v) m) := fun x v => sx_24 d x m 1 v (by omega)
  have hfires : ∀ x' : XS, x'.2.2.2 = x.2.2.2 → callR (k + 1) n_X2_fires [.ref (sAd t)] (P d x' m) = some (.inl (some (.int (orI (hotB (A.1 1)) C.1))), P d x' m) := by
    intro x' e
    have := X_fires k (P d x' m) (sAd t) (x'.2.2.2.1 t) (P_len d x' m t ht)
    rw [P_g d x' m t ht, e, hfi] at this
    exact this
  have hgone : ∀ x' : XS, x'.2.2.2 = x.2.2.2 → callR (k + 1) n_X2_gone [.ref (sAd t)] (P d x' m) = some (.inl (some (.int (A.2.1 3))), P d x' m) := by
    intro x' e
    have := X_gone k (P d x' m) (sAd t) (x'.2.2.2.1 t) (P_len d x' m t ht)
    rw [P_g d x' m t ht, e, ag.1] at this
    exact this
  have hfar : ∀ x' : XS, callR (k + 1) n_X1_far [.ref (x.2.2.2.2.1 0), .int (nI (A.2.2 0)), .int (nI (h + 1))] (P d x' m) = some (.inl (some (.int (C.2.1 (A.2.2 0) (h + 1)))), P d x' m) := by
    intro x'
    obtain ⟨z, ez, hz⟩ := X_far k (hC.1.1 x' m) (A.2.2 0) (h + 1) (by omega) (by omega)
    rw [ez]
    rcases hz with hz | hz
    · rw [hz.2.2]
    · unfold rA at hr
      exact absurd hz.1 (Int32.not_lt.mpr (of_decide_eq_true hr))
  have hbes : ∀ x' : XS, ∀ β : Type, ∀ f : Int32 → Option β, ((rdR (P d x' m) (x.2.2.2.2.1 0) 1 2).bind fun r => (ldI (P d x' m) r 0 (nI h)).bind f) = f (C.2.2.1 h) := by
    intro x' β f
    obtain ⟨be, e1, e2⟩ := hb1 x' m
    rw [e1, Option.bind_some, e2 h (by omega), Option.bind_some, hb2 h hh]
  have hbit : ∀ (h' : AH) (v : Int32), v = 0 ∨ v = 1 → callR (k + 1) n_X0_bit [.int v] h' = some (.inl (some (.int v)), h') := by
    intro h' v hv
    rcases hv with rfl | rfl
    · exact X_bit k h' false
    · exact X_bit k h' true
  have hx1 : ∀ (x0 : XS) (i : Nat) (v : Int64), (xW x0 i v).2.2.2 = x0.2.2.2 := fun _ _ _ => rfl
  refine ⟨xW (xW (xW (xW (xW (xW (xW (xW (xW (xW (xW x 0 (nI h).toInt64) 1 (A.1 2 h).toInt64) 2 (A.1 0 h).toInt64) 3 (if 0 < A.1 1 h then 1 else 0)) 4 (C.2.1 (A.2.2 0) (h + 1)).toInt64) 5 (pcI (C.2.2.1 h &&& orI (hotB (A.1 1)) C.1)).toInt64) 6 (pcI (orI (hotB (A.1 1)) C.1)).toInt64) 7 (A.2.1 3).toInt64) 8 (A.1 3 h).toInt64) 9 (A.2.1 2).toInt64) 10 (A.2.1 1).toInt64, ?_, ⟨rfl, rfl, rfl⟩, ?_⟩
  · by_cases hq : 0 < A.1 1 h
    · have hq' : ¬ A.1 1 h ≤ 0 := Int32.not_le.mpr hq
      simp (disch := first | omega | (simp only [hx1]; done)) only [e_X0_asks_0, e_X0_asks_48, e_X0_asks_52, e_X0_asks_53, c_X0_asks, cond_true, cond_false, Option.bind_some, rI_s, rL_s, rR_s, rV_s, cnd_d, cnd_ne, cnd_eq, bI_d0, bI_t0, ite_not, decide_eq_false_iff_not, decide_eq_true_eq, lg_cmp_ge, lg_cmp_le, lg_cmp_gt, lg_cmp_lt, lg_cmp_eq, okb_1, okb_0, okb_b, li_2, li_3, li_4, li_5, li_6, li_7, li_8, li_9, li_10, li_11, li_12, li_13, li_14, li_15, li_16, li_18, li_20, li_22, li_24, li_25, li_26, li_28, li_32, li_38, li_40, li_43, li_44, li_45, li_46, li_47, li_48, li_49, li_50, li_54, li_56, li_59, li_60, li_61, li_64, li_91, li_93, li_99, li_100, li_111, li_112, li_117, li_122, li_123, li_131, li_132, li_200, li_255, li_256, li_400, li_560, li_9999, li_10000, li_99999, li_65536, pk_mul, nI_add, nI_1, neg_lt0, neg_le0, nI_nn, nI_nlt0, P_isO, rp_0, rp_1, rp_2, rp_3, rp_4, rp_5, rp_6, rp_7, rp_8, rp_9, lp_0, lp_1, lp_2, lp_3, lp_4, sp_0, sp_1, sp_2, sp_3, sp_4, wp_5, wp_6, wp_7, wp_8, wp_9, isO_X, rx_12, rx_0, sx_24, hL0, hL1, hx1, b0, b1, b2, b3, a5, a6, a9, hq', if_false, hfar, hbes, hfires, hgone, pc_all, if_pos hq, hbit _ 1 (Or.inr rfl)]
      rfl
    · have hq' : A.1 1 h ≤ 0 := Int32.not_lt.mp hq
      simp (disch := first | omega | (simp only [hx1]; done)) only [e_X0_asks_0, e_X0_asks_48, e_X0_asks_52, e_X0_asks_53, c_X0_asks, cond_true, cond_false, Option.bind_some, rI_s, rL_s, rR_s, rV_s, cnd_d, cnd_ne, cnd_eq, bI_d0, bI_t0, ite_not, decide_eq_false_iff_not, decide_eq_true_eq, lg_cmp_ge, lg_cmp_le, lg_cmp_gt, lg_cmp_lt, lg_cmp_eq, okb_1, okb_0, okb_b, li_2, li_3, li_4, li_5, li_6, li_7, li_8, li_9, li_10, li_11, li_12, li_13, li_14, li_15, li_16, li_18, li_20, li_22, li_24, li_25, li_26, li_28, li_32, li_38, li_40, li_43, li_44, li_45, li_46, li_47, li_48, li_49, li_50, li_54, li_56, li_59, li_60, li_61, li_64, li_91, li_93, li_99, li_100, li_111, li_112, li_117, li_122, li_123, li_131, li_132, li_200, li_255, li_256, li_400, li_560, li_9999, li_10000, li_99999, li_65536, pk_mul, nI_add, nI_1, neg_lt0, neg_le0, nI_nn, nI_nlt0, P_isO, rp_0, rp_1, rp_2, rp_3, rp_4, rp_5, rp_6, rp_7, rp_8, rp_9, lp_0, lp_1, lp_2, lp_3, lp_4, sp_0, sp_1, sp_2, sp_3, sp_4, wp_5, wp_6, wp_7, wp_8, wp_9, isO_X, rx_12, rx_0, sx_24, hL0, hL1, hx1, b0, b1, b2, b3, a5, a6, a9, hq', if_true, hfar, hbes, hfires, hgone, pc_all, if_neg hq, hbit _ 0 (Or.inl rfl)]
      rfl
  · funext i
    match i with
    | 0 | 1 | 2 | 3 | 4 | 5 | 6 | 7 | 8 | 9 | 10 => simp [xW, va_up, wdA]
    | n + 11 => exact if_neg (by omega)
