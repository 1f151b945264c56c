/-! x: the valley, a State -/
def VL (h : AH) (v : Nat) (C : AC) : Prop := ∃ (al fa be arr cap : Nat) (w mc : Int32) (far bes : Nat → Int32) (f : Nat → Option Nat), aget h v = some (.inl (1, [.ref al, .ref fa, .ref be, .int w, .int C.2.2.2.1])) ∧ aget h al = some (.inl (8, [.int mc, .ref arr, .int (nI C.1)])) ∧ aget h fa = some (.inr (0, 49, .inl far)) ∧ aget h be = some (.inr (0, 6, .inl bes)) ∧ aget h arr = some (.inr (4, cap, .inr (.inr f))) ∧ (∀ i, i < C.1 → bes i = C.2.2.1 i) ∧ (∀ a b, a < 7 → b < 7 → (0 ≤ C.2.1 a b ∧ C.2.1 a b < 10000 ∧ far (7 * a + b) = C.2.1 a b) ∨ (C.2.1 a b < 0 ∧ far (7 * a + b) = 10000)) ∧ C.1 ≤ 6
theorem rd_of {h : AH} {a ci : Nat} {fs : List Value} (e : aget h a = some (.inl (ci, fs))) (k : Nat) : rdF h a ci k = fs[k]? := by
  unfold rdF
  rw [e]
  simp
theorem rdI_of {h : AH} {a ci : Nat} {fs : List Value} (e : aget h a = some (.inl (ci, fs))) (k : Nat) (v : Int32) (ev : fs[k]? = some (.int v)) : rdI h a ci k = some v := by
  unfold rdI
  rw [rd_of e, ev]
theorem rdR_of {h : AH} {a ci : Nat} {fs : List Value} (e : aget h a = some (.inl (ci, fs))) (k v : Nat) (ev : fs[k]? = some (.ref v)) : rdR h a ci k = some v := by
  unfold rdR
  rw [rd_of e, ev]
theorem isO_of {h : AH} {a ci : Nat} {fs : List Value} (e : aget h a = some (.inl (ci, fs))) : isO h a ci = true := by
  unfold isO
  rw [e]
  simp
theorem ldI_of {h : AH} {a t n : Nat} {f : Nat → Int32} (e : aget h a = some (.inr (t, n, .inl f))) (hn : n < 2 ^ 31) (k : Nat) (hk : k < n) : ldI h a t (nI k) = some (f k) := by
  unfold ldI
  rw [e]
  simp only [beq_self_eq_true, inb_nI hk hn, Bool.and_self, cond_true, nI_clamp (show k < 2 ^ 31 by omega)]
theorem X_houses (k : Nat) {h : AH} {v : Nat} {C : AC} (hv : VL h v C) : callR (k + 2) n_X1_houses [.ref v] h = some (.inl (some (.int (nI C.1))), h) := by
  obtain ⟨al, fa, be, arr, cap, w, mc, far, bes, f, e1, e2, e3, e4, e5, e6, e7, h6⟩ := hv
  simp only [e_X1_houses_0, c_X1_houses, e_J2_size_0, c_J2_size, isO_of e1, isO_of e2, cond_true, cond_false, Option.bind_some, rI_s, rL_s, rR_s, rV_s, cnd_d, cnd_ne, cnd_eq, bI_d0, bI_t0, ite_not, decide_eq_false_iff_not, decide_eq_true_eq, lg_cmp_ge, lg_cmp_le, lg_cmp_gt, lg_cmp_lt, lg_cmp_eq, okb_1, okb_0, okb_b, rdR_of e1 0 al rfl, rdI_of e2 2 _ rfl]
theorem X_far (k : Nat) {h : AH} {v : Nat} {C : AC} (hv : VL h v C) (a b : Nat) (ha : a < 7) (hb : b < 7) : ∃ z, callR (k + 1) n_X1_far [.ref v, .int (nI a), .int (nI b)] h = some (.inl (some (.int z)), h) ∧ ((0 ≤ C.2.1 a b ∧ C.2.1 a b < 10000 ∧ z = C.2.1 a b) ∨ (C.2.1 a b < 0 ∧ z = 10000)) := by
  obtain ⟨al, fa, be, arr, cap, w, mc, far, bes, f, e1, e2, e3, e4, e5, e6, e7, h6⟩ := hv
  refine ⟨far (7 * a + b), ?_, e7 a b ha hb⟩
  simp (disch := omega) only [e_X1_far_0, c_X1_far, isO_of e1, cond_true, cond_false, Option.bind_some, rI_s, rL_s, rR_s, rV_s, cnd_d, cnd_ne, cnd_eq, bI_d0, bI_t0, ite_not, decide_eq_false_iff_not, decide_eq_true_eq, lg_cmp_ge, lg_cmp_le, lg_cmp_gt, lg_cmp_lt, lg_cmp_eq, okb_1, okb_0, okb_b, rdR_of e1 1 fa rfl, li_2, li_3, li_4, li_5, li_6, li_7, li_8, li_9, li_10, li_11, li_12, li_13, li_14, li_15, li_16, li_18, li_20, li_22, li_24, li_25, li_26, li_28, li_32, li_38, li_40, li_43, li_44, li_45, li_46, li_47, li_48, li_49, li_50, li_54, li_56, li_59, li_60, li_61, li_64, li_91, li_93, li_99, li_100, li_111, li_112, li_117, li_122, li_123, li_131, li_132, li_200, li_255, li_256, li_400, li_560, li_9999, li_10000, li_99999, li_65536, pk_mul, nI_add, nI_1, neg_lt0, neg_le0, nI_nn, nI_nlt0, ldI_of e3]
theorem VL_leap {h : AH} {v : Nat} {C : AC} (hv : VL h v C) : rdI h v 1 4 = some C.2.2.2.1 := by
  obtain ⟨al, fa, be, arr, cap, w, mc, far, bes, f, e1, e2, e3, e4, e5, e6, e7, h6⟩ := hv
  exact rdI_of e1 4 _ rfl
theorem VL_be {h : AH} {v : Nat} {C : AC} (hv : VL h v C) : ∃ (be : Nat) (bes : Nat → Int32), rdR h v 1 2 = some be ∧ (∀ i, i < 6 → ldI h be 0 (nI i) = some (bes i)) ∧ ∀ i, i < C.1 → bes i = C.2.2.1 i := by
  obtain ⟨al, fa, be, arr, cap, w, mc, far, bes, f, e1, e2, e3, e4, e5, e6, e7, h6⟩ := hv
  exact ⟨be, bes, rdR_of e1 2 _ rfl, fun i hi => ldI_of e4 (by decide) i hi, e6⟩
def VX (C : AC) (A : AA) (s : SS) : Prop := (∀ h, h < C.1 → s.1 0 h = A.1 0 h ∧ s.1 1 h = A.1 1 h ∧ s.1 2 h = A.1 2 h ∧ s.1 4 h = A.1 3 h) ∧ (∀ h, C.1 ≤ h → h < 6 → s.1 0 h = 0 ∧ s.1 1 h = 0) ∧ (s.2 8 = A.2.1 0 ∧ s.2 9 = A.2.1 1 ∧ s.2 5 = A.2.1 2) ∧ s.2 6 = nI (A.2.2 0) ∧ (0 < A.2.1 0 → s.2 7 = nI (A.2.2 1)) ∧ (sumI (s.1 3) 6 = A.2.1 3 ∧ ∀ h, h < C.1 → s.1 3 h = A.1 4 h)
theorem orI_z {f : Nat → Int32} {n : Nat} : ∀ r, (∀ h, n ≤ h → h < n + r → f h = 0) → orI f (n + r) = orI f n
  | 0, _ => rfl
  | r + 1, e => by
    show orI f (n + r) ||| f (n + r) = _
    rw [e (n + r) (by omega) (by omega), orI_z r fun h a b => e h a (by omega)]
    exact Int32.or_zero
theorem sumI_z {f : Nat → Int32} {n : Nat} : ∀ r, (∀ h, n ≤ h → h < n + r → f h = 0) → sumI f (n + r) = sumI f n
  | 0, _ => rfl
  | r + 1, e => by
    show sumI f (n + r) + f (n + r) = _
    rw [e (n + r) (by omega) (by omega), sumI_z r fun h a b => e h a (by omega)]
    exact Int32.add_zero _
theorem orI_6 {f g : Nat → Int32} {n : Nat} (hn : n ≤ 6) (h : ∀ i, i < n → f i = g i) (hz : ∀ i, n ≤ i → i < 6 → f i = 0) : orI f 6 = orI g n := by
  rw [show 6 = n + (6 - n) by omega, orI_z _ fun i a b => hz i a (by omega)]
  exact orI_c h
theorem sumI_6 {f g : Nat → Int32} {n : Nat} (hn : n ≤ 6) (h : ∀ i, i < n → f i = g i) (hz : ∀ i, n ≤ i → i < 6 → f i = 0) : sumI f 6 = sumI g n := by
  rw [show 6 = n + (6 - n) by omega, sumI_z _ fun i a b => hz i a (by omega)]
  exact sumI_c h
theorem sA_s (s : SS) (j i : Nat) (v : Int32) : (sA s j i v).1 j i = v := by simp [sA, va_up_self]
theorem sA_n (s : SS) (j i : Nat) (v : Int32) (h : Nat) (e : h ≠ i) : (sA s j i v).1 j h = s.1 j h := by simp [sA, va_up_self, va_up_ne _ _ e]
theorem sA_o (s : SS) (j i : Nat) (v : Int32) (j' : Nat) (e : j' ≠ j) : (sA s j i v).1 j' = s.1 j' := by simp [sA, va_up_ne _ _ e]
theorem sA_2 (s : SS) (j i : Nat) (v : Int32) : (sA s j i v).2 = s.2 := rfl
theorem sF_1 (s : SS) (k : Nat) (v : Int32) : (sF s k v).1 = s.1 := rfl
theorem sF_s (s : SS) (k : Nat) (v : Int32) : (sF s k v).2 k = v := va_up_self _ _ _
theorem sF_n (s : SS) (k : Nat) (v : Int32) (j : Nat) (e : j ≠ k) : (sF s k v).2 j = s.2 j := va_up_ne _ _ e
theorem X_bit (k : Nat) (h : AH) (t : Bool) : callR (k + 1) n_X0_bit [.int (bI t)] h = some (.inl (some (.int (bI t))), h) := by
  simp only [e_X0_bit_0, e_X0_bit_4, e_X0_bit_8, e_X0_bit_9, c_X0_bit, cond_true, cond_false, Option.bind_some, rI_s, rL_s, rR_s, rV_s, cnd_d, cnd_ne, cnd_eq, bI_d0, bI_t0, ite_not, decide_eq_false_iff_not, decide_eq_true_eq, lg_cmp_ge, lg_cmp_le, lg_cmp_gt, lg_cmp_lt, lg_cmp_eq, okb_1, okb_0, okb_b]
  cases t <;> rfl
theorem X_isAway (k : Nat) (h : AH) (b : Nat) (s : SS) (hb : b + 6 ≤ h.1) : callR (k + 1) n_X2_isAway [.ref b] (sput h b s) = some (.inl (some (.int (bI (decide (0 < s.2 8))))), sput h b s) := by
  simp (disch := omega) only [e_X2_isAway_0, e_X2_isAway_7, e_X2_isAway_11, e_X2_isAway_12, c_X2_isAway, cond_true, cond_false, Option.bind_some, rI_s, rL_s, rR_s, rV_s, cnd_d, cnd_ne, cnd_eq, bI_d0, bI_t0, ite_not, decide_eq_false_iff_not, decide_eq_true_eq, lg_cmp_ge, lg_cmp_le, lg_cmp_gt, lg_cmp_lt, lg_cmp_eq, okb_1, okb_0, okb_b, li_2, li_3, li_4, li_5, li_6, li_7, li_8, li_9, li_10, li_11, li_12, li_13, li_14, li_15, li_16, li_18, li_20, li_22, li_24, li_25, li_26, li_28, li_32, li_38, li_40, li_43, li_44, li_45, li_46, li_47, li_48, li_49, li_50, li_54, li_56, li_59, li_60, li_61, li_64, li_91, li_93, li_99, li_100, li_111, li_112, li_117, li_122, li_123, li_131, li_132, li_200, li_255, li_256, li_400, li_560, li_9999, li_10000, li_99999, li_65536, pk_mul, nI_add, nI_1, neg_lt0, neg_le0, nI_nn, nI_nlt0, isO_s, rs_0, ls_0, ss_0, rs_1, ls_1, ss_1, rs_2, ls_2, ss_2, rs_3, ls_3, ss_3, rs_4, ls_4, ss_4, rs_5, ws_5, rs_6, ws_6, rs_7, ws_7, rs_8, ws_8, rs_9, ws_9]
  by_cases e : 0 < s.2 8
  · rw [if_neg (Int32.not_le.mpr e)]; simp [e, bI]
  · rw [if_pos (Int32.not_lt.mp e)]; simp [e, bI]
theorem X_firesL (E : AEn) (h : AH) (b : Nat) (s : SS) (hb : b + 6 ≤ h.1) : ∀ r i : Nat, i + r = 6 → evR T_X2_fires E 4 ([(0, .ref b), (1, .int (orI (hotB (s.1 1)) i)), (2, .int (nI i))], [], sput h b s) = some (.inl (some (.int (orI (hotB (s.1 1)) 6))), sput h b s)
  | 0, i, hi => by
    have e : i = 6 := by omega
    subst e
    rw [e_X2_fires_4]
    simp (disch := omega) only [e_X2_fires_0, e_X2_fires_10, e_X2_fires_20, e_X2_fires_26, e_X2_fires_27, e_X2_fires_35, c_X2_fires, cond_true, cond_false, Option.bind_some, rI_s, rL_s, rR_s, rV_s, cnd_d, cnd_ne, cnd_eq, bI_d0, bI_t0, ite_not, decide_eq_false_iff_not, decide_eq_true_eq, lg_cmp_ge, lg_cmp_le, lg_cmp_gt, lg_cmp_lt, lg_cmp_eq, okb_1, okb_0, okb_b, li_2, li_3, li_4, li_5, li_6, li_7, li_8, li_9, li_10, li_11, li_12, li_13, li_14, li_15, li_16, li_18, li_20, li_22, li_24, li_25, li_26, li_28, li_32, li_38, li_40, li_43, li_44, li_45, li_46, li_47, li_48, li_49, li_50, li_54, li_56, li_59, li_60, li_61, li_64, li_91, li_93, li_99, li_100, li_111, li_112, li_117, li_122, li_123, li_131, li_132, li_200, li_255, li_256, li_400, li_560, li_9999, li_10000, li_99999, li_65536, pk_mul, nI_add, nI_1, neg_lt0, neg_le0, nI_nn, nI_nlt0, le_rT, if_true]
  | r + 1, i, hi => by
    have hr := X_firesL E h b s hb r (i + 1) (by omega)
    rw [← hr, e_X2_fires_4]
    simp (disch := omega) only [e_X2_fires_0, e_X2_fires_10, e_X2_fires_20, e_X2_fires_26, e_X2_fires_27, e_X2_fires_35, c_X2_fires, cond_true, cond_false, Option.bind_some, rI_s, rL_s, rR_s, rV_s, cnd_d, cnd_ne, cnd_eq, bI_d0, bI_t0, ite_not, decide_eq_false_iff_not, decide_eq_true_eq, lg_cmp_ge, lg_cmp_le, lg_cmp_gt, lg_cmp_lt, lg_cmp_eq, okb_1, okb_0, okb_b, li_2, li_3, li_4, li_5, li_6, li_7, li_8, li_9, li_10, li_11, li_12, li_13, li_14, li_15, li_16, li_18, li_20, li_22, li_24, li_25, li_26, li_28, li_32, li_38, li_40, li_43, li_44, li_45, li_46, li_47, li_48, li_49, li_50, li_54, li_56, li_59, li_60, li_61, li_64, li_91, li_93, li_99, li_100, li_111, li_112, li_117, li_122, li_123, li_131, li_132, li_200, li_255, li_256, li_400, li_560, li_9999, li_10000, li_99999, li_65536, pk_mul, nI_add, nI_1, neg_lt0, neg_le0, nI_nn, nI_nlt0, isO_s, rs_0, ls_0, ss_0, rs_1, ls_1, ss_1, rs_2, ls_2, ss_2, rs_3, ls_3, ss_3, rs_4, ls_4, ss_4, rs_5, ws_5, rs_6, ws_6, rs_7, ws_7, rs_8, ws_8, rs_9, ws_9, nI_leP, if_neg (show ¬ 6 ≤ i by omega)]
    show _ = evR T_X2_fires E 4 ([(0, .ref b), (1, .int (orI (hotB (s.1 1)) i ||| hotB (s.1 1) i)), (2, .int (nI (i + 1)))], [], sput h b s)
    unfold hotB
    by_cases hp : 0 < s.1 1 i
    · rw [if_neg (Int32.not_le.mpr hp), if_pos hp]
    · rw [if_pos (Int32.not_lt.mp hp), if_neg hp]
theorem X_fires (k : Nat) (h : AH) (b : Nat) (s : SS) (hb : b + 6 ≤ h.1) : callR (k + 1) n_X2_fires [.ref b] (sput h b s) = some (.inl (some (.int (orI (hotB (s.1 1)) 6))), sput h b s) := by
  simp (disch := omega) only [e_X2_fires_0, c_X2_fires, cond_true, cond_false, Option.bind_some, rI_s, rL_s, rR_s, rV_s, cnd_d, cnd_ne, cnd_eq, bI_d0, bI_t0, ite_not, decide_eq_false_iff_not, decide_eq_true_eq, lg_cmp_ge, lg_cmp_le, lg_cmp_gt, lg_cmp_lt, lg_cmp_eq, okb_1, okb_0, okb_b, isO_s, rs_0, ls_0, ss_0, rs_1, ls_1, ss_1, rs_2, ls_2, ss_2, rs_3, ls_3, ss_3, rs_4, ls_4, ss_4, rs_5, ws_5, rs_6, ws_6, rs_7, ws_7, rs_8, ws_8, rs_9, ws_9]
  exact X_firesL _ h b s hb 6 0 (by omega)
theorem X_goneL (E : AEn) (h : AH) (b : Nat) (s : SS) (hb : b + 6 ≤ h.1) : ∀ r i : Nat, i + r = 6 → evR T_X2_gone E 4 ([(0, .ref b), (1, .int (sumI (s.1 3) i)), (2, .int (nI i))], [], sput h b s) = some (.inl (some (.int (sumI (s.1 3) 6))), sput h b s)
  | 0, i, hi => by
    have e : i = 6 := by omega
    subst e
    rw [e_X2_gone_4]
    simp (disch := omega) only [e_X2_gone_0, e_X2_gone_10, e_X2_gone_25, c_X2_gone, cond_true, cond_false, Option.bind_some, rI_s, rL_s, rR_s, rV_s, cnd_d, cnd_ne, cnd_eq, bI_d0, bI_t0, ite_not, decide_eq_false_iff_not, decide_eq_true_eq, lg_cmp_ge, lg_cmp_le, lg_cmp_gt, lg_cmp_lt, lg_cmp_eq, okb_1, okb_0, okb_b, li_2, li_3, li_4, li_5, li_6, li_7, li_8, li_9, li_10, li_11, li_12, li_13, li_14, li_15, li_16, li_18, li_20, li_22, li_24, li_25, li_26, li_28, li_32, li_38, li_40, li_43, li_44, li_45, li_46, li_47, li_48, li_49, li_50, li_54, li_56, li_59, li_60, li_61, li_64, li_91, li_93, li_99, li_100, li_111, li_112, li_117, li_122, li_123, li_131, li_132, li_200, li_255, li_256, li_400, li_560, li_9999, li_10000, li_99999, li_65536, pk_mul, nI_add, nI_1, neg_lt0, neg_le0, nI_nn, nI_nlt0, le_rT, if_true]
  | r + 1, i, hi => by
    rw [e_X2_gone_4]
    simp (disch := omega) only [e_X2_gone_0, e_X2_gone_10, e_X2_gone_25, c_X2_gone, cond_true, cond_false, Option.bind_some, rI_s, rL_s, rR_s, rV_s, cnd_d, cnd_ne, cnd_eq, bI_d0, bI_t0, ite_not, decide_eq_false_iff_not, decide_eq_true_eq, lg_cmp_ge, lg_cmp_le, lg_cmp_gt, lg_cmp_lt, lg_cmp_eq, okb_1, okb_0, okb_b, li_2, li_3, li_4, li_5, li_6, li_7, li_8, li_9, li_10, li_11, li_12, li_13, li_14, li_15, li_16, li_18, li_20, li_22, li_24, li_25, li_26, li_28, li_32, li_38, li_40, li_43, li_44, li_45, li_46, li_47, li_48, li_49, li_50, li_54, li_56, li_59, li_60, li_61, li_64, li_91, li_93, li_99, li_100, li_111, li_112, li_117, li_122, li_123, li_131, li_132, li_200, li_255, li_256, li_400, li_560, li_9999, li_10000, li_99999, li_65536, pk_mul, nI_add, nI_1, neg_lt0, neg_le0, nI_nn, nI_nlt0, isO_s, rs_0, ls_0, ss_0, rs_1, ls_1, ss_1, rs_2, ls_2, ss_2, rs_3, ls_3, ss_3, rs_4, ls_4, ss_4, rs_5, ws_5, rs_6, ws_6, rs_7, ws_7, rs_8, ws_8, rs_9, ws_9, nI_leP, if_neg (show ¬ 6 ≤ i by omega)]
    exact X_goneL E h b s hb r (i + 1) (by omega)
theorem X_gone (k : Nat) (h : AH) (b : Nat) (s : SS) (hb : b + 6 ≤ h.1) : callR (k + 1) n_X2_gone [.ref b] (sput h b s) = some (.inl (some (.int (sumI (s.1 3) 6))), sput h b s) := by
  simp (disch := omega) only [e_X2_gone_0, c_X2_gone, cond_true, cond_false, Option.bind_some, rI_s, rL_s, rR_s, rV_s, cnd_d, cnd_ne, cnd_eq, bI_d0, bI_t0, ite_not, decide_eq_false_iff_not, decide_eq_true_eq, lg_cmp_ge, lg_cmp_le, lg_cmp_gt, lg_cmp_lt, lg_cmp_eq, okb_1, okb_0, okb_b, isO_s, rs_0, ls_0, ss_0, rs_1, ls_1, ss_1, rs_2, ls_2, ss_2, rs_3, ls_3, ss_3, rs_4, ls_4, ss_4, rs_5, ws_5, rs_6, ws_6, rs_7, ws_7, rs_8, ws_8, rs_9, ws_9]
  exact X_goneL _ h b s hb 6 0 (by omega)
theorem X_leftL (E : AEn) (h : AH) (b : Nat) (s : SS) (hb : b + 6 ≤ h.1) : ∀ r i : Nat, i + r = 6 → evR T_X2_left E 4 ([(0, .ref b), (1, .int (sumI (s.1 0) i)), (2, .int (nI i))], [], sput h b s) = some (.inl (some (.int (sumI (s.1 0) 6))), sput h b s)
  | 0, i, hi => by
    have e : i = 6 := by omega
    subst e
    rw [e_X2_left_4]
    simp (disch := omega) only [e_X2_left_0, e_X2_left_10, e_X2_left_25, c_X2_left, cond_true, cond_false, Option.bind_some, rI_s, rL_s, rR_s, rV_s, cnd_d, cnd_ne, cnd_eq, bI_d0, bI_t0, ite_not, decide_eq_false_iff_not, decide_eq_true_eq, lg_cmp_ge, lg_cmp_le, lg_cmp_gt, lg_cmp_lt, lg_cmp_eq, okb_1, okb_0, okb_b, li_2, li_3, li_4, li_5, li_6, li_7, li_8, li_9, li_10, li_11, li_12, li_13, li_14, li_15, li_16, li_18, li_20, li_22, li_24, li_25, li_26, li_28, li_32, li_38, li_40, li_43, li_44, li_45, li_46, li_47, li_48, li_49, li_50, li_54, li_56, li_59, li_60, li_61, li_64, li_91, li_93, li_99, li_100, li_111, li_112, li_117, li_122, li_123, li_131, li_132, li_200, li_255, li_256, li_400, li_560, li_9999, li_10000, li_99999, li_65536, pk_mul, nI_add, nI_1, neg_lt0, neg_le0, nI_nn, nI_nlt0, le_rT, if_true]
  | r + 1, i, hi => by
    rw [e_X2_left_4]
    simp (disch := omega) only [e_X2_left_0, e_X2_left_10, e_X2_left_25, c_X2_left, cond_true, cond_false, Option.bind_some, rI_s, rL_s, rR_s, rV_s, cnd_d, cnd_ne, cnd_eq, bI_d0, bI_t0, ite_not, decide_eq_false_iff_not, decide_eq_true_eq, lg_cmp_ge, lg_cmp_le, lg_cmp_gt, lg_cmp_lt, lg_cmp_eq, okb_1, okb_0, okb_b, li_2, li_3, li_4, li_5, li_6, li_7, li_8, li_9, li_10, li_11, li_12, li_13, li_14, li_15, li_16, li_18, li_20, li_22, li_24, li_25, li_26, li_28, li_32, li_38, li_40, li_43, li_44, li_45, li_46, li_47, li_48, li_49, li_50, li_54, li_56, li_59, li_60, li_61, li_64, li_91, li_93, li_99, li_100, li_111, li_112, li_117, li_122, li_123, li_131, li_132, li_200, li_255, li_256, li_400, li_560, li_9999, li_10000, li_99999, li_65536, pk_mul, nI_add, nI_1, neg_lt0, neg_le0, nI_nn, nI_nlt0, isO_s, rs_0, ls_0, ss_0, rs_1, ls_1, ss_1, rs_2, ls_2, ss_2, rs_3, ls_3, ss_3, rs_4, ls_4, ss_4, rs_5, ws_5, rs_6, ws_6, rs_7, ws_7, rs_8, ws_8, rs_9, ws_9, nI_leP, if_neg (show ¬ 6 ≤ i by omega)]
    exact X_leftL E h b s hb r (i + 1) (by omega)
theorem X_left (k : Nat) (h : AH) (b : Nat) (s : SS) (hb : b + 6 ≤ h.1) : callR (k + 1) n_X2_left [.ref b] (sput h b s) = some (.inl (some (.int (sumI (s.1 0) 6))), sput h b s) := by
  simp (disch := omega) only [e_X2_left_0, c_X2_left, cond_true, cond_false, Option.bind_some, rI_s, rL_s, rR_s, rV_s, cnd_d, cnd_ne, cnd_eq, bI_d0, bI_t0, ite_not, decide_eq_false_iff_not, decide_eq_true_eq, lg_cmp_ge, lg_cmp_le, lg_cmp_gt, lg_cmp_lt, lg_cmp_eq, okb_1, okb_0, okb_b, isO_s, rs_0, ls_0, ss_0, rs_1, ls_1, ss_1, rs_2, ls_2, ss_2, rs_3, ls_3, ss_3, rs_4, ls_4, ss_4, rs_5, ws_5, rs_6, ws_6, rs_7, ws_7, rs_8, ws_8, rs_9, ws_9]
  exact X_leftL _ h b s hb 6 0 (by omega)
theorem X_goesOn (k : Nat) (h : AH) (b : Nat) (s : SS) (hb : b + 6 ≤ h.1) (C : AC) (A : AA) (hA : VX C A s) : ∃ s', callR (k + 2) n_X2_goesOn [.ref b] (sput h b s) = some (.inl none, sput h b s') ∧ VX C (stepA A) s' ∧ s'.1 = s.1 := by
  obtain ⟨a1, az, ⟨a8, a9, a5⟩, a6, a7, ag⟩ := id hA
  unfold stepA
  by_cases h0 : 0 < A.2.1 0
  · rw [if_pos h0]
    by_cases h1 : 0 < A.2.1 0 - 1
    · rw [if_pos h1]
      refine ⟨sF s 8 (A.2.1 0 - 1), ?_, ⟨a1, az, ⟨sF_s _ _ _, ?_, ?_⟩, ?_, fun _ => ?_, ag⟩, rfl⟩
      · simp (disch := omega) only [e_X2_goesOn_0, e_X2_goesOn_7, e_X2_goesOn_8, e_X2_goesOn_25, e_X2_goesOn_26, c_X2_goesOn, cond_true, cond_false, Option.bind_some, rI_s, rL_s, rR_s, rV_s, cnd_d, cnd_ne, cnd_eq, bI_d0, bI_t0, ite_not, decide_eq_false_iff_not, decide_eq_true_eq, lg_cmp_ge, lg_cmp_le, lg_cmp_gt, lg_cmp_lt, lg_cmp_eq, okb_1, okb_0, okb_b, li_2, li_3, li_4, li_5, li_6, li_7, li_8, li_9, li_10, li_11, li_12, li_13, li_14, li_15, li_16, li_18, li_20, li_22, li_24, li_25, li_26, li_28, li_32, li_38, li_40, li_43, li_44, li_45, li_46, li_47, li_48, li_49, li_50, li_54, li_56, li_59, li_60, li_61, li_64, li_91, li_93, li_99, li_100, li_111, li_112, li_117, li_122, li_123, li_131, li_132, li_200, li_255, li_256, li_400, li_560, li_9999, li_10000, li_99999, li_65536, pk_mul, nI_add, nI_1, neg_lt0, neg_le0, nI_nn, nI_nlt0, isO_s, rs_0, ls_0, ss_0, rs_1, ls_1, ss_1, rs_2, ls_2, ss_2, rs_3, ls_3, ss_3, rs_4, ls_4, ss_4, rs_5, ws_5, rs_6, ws_6, rs_7, ws_7, rs_8, ws_8, rs_9, ws_9, X_isAway, a8, h0, if_true, sF_s, if_neg (Int32.not_le.mpr h1)]
      · rw [sF_n _ _ _ _ (by omega)]; exact a9
      · rw [sF_n _ _ _ _ (by omega)]; exact a5
      · rw [sF_n _ _ _ _ (by omega)]; exact a6
      · rw [sF_n _ _ _ _ (by omega)]; exact a7 h0
    · rw [if_neg h1]
      refine ⟨sF (sF (sF s 8 (A.2.1 0 - 1)) 6 (nI (A.2.2 1))) 7 (-1), ?_, ⟨a1, az, ⟨?_, ?_, ?_⟩, ?_, fun hx => absurd hx h1, ag⟩, rfl⟩
      · simp (disch := omega) only [e_X2_goesOn_0, e_X2_goesOn_7, e_X2_goesOn_8, e_X2_goesOn_25, e_X2_goesOn_26, c_X2_goesOn, cond_true, cond_false, Option.bind_some, rI_s, rL_s, rR_s, rV_s, cnd_d, cnd_ne, cnd_eq, bI_d0, bI_t0, ite_not, decide_eq_false_iff_not, decide_eq_true_eq, lg_cmp_ge, lg_cmp_le, lg_cmp_gt, lg_cmp_lt, lg_cmp_eq, okb_1, okb_0, okb_b, li_2, li_3, li_4, li_5, li_6, li_7, li_8, li_9, li_10, li_11, li_12, li_13, li_14, li_15, li_16, li_18, li_20, li_22, li_24, li_25, li_26, li_28, li_32, li_38, li_40, li_43, li_44, li_45, li_46, li_47, li_48, li_49, li_50, li_54, li_56, li_59, li_60, li_61, li_64, li_91, li_93, li_99, li_100, li_111, li_112, li_117, li_122, li_123, li_131, li_132, li_200, li_255, li_256, li_400, li_560, li_9999, li_10000, li_99999, li_65536, pk_mul, nI_add, nI_1, neg_lt0, neg_le0, nI_nn, nI_nlt0, isO_s, rs_0, ls_0, ss_0, rs_1, ls_1, ss_1, rs_2, ls_2, ss_2, rs_3, ls_3, ss_3, rs_4, ls_4, ss_4, rs_5, ws_5, rs_6, ws_6, rs_7, ws_7, rs_8, ws_8, rs_9, ws_9, X_isAway, a8, h0, if_true, sF_s, sF_n, if_pos (Int32.not_lt.mp h1), a7 h0]
      · simp (disch := omega) only [sF_n, sF_s]; rfl
      · simp (disch := omega) only [sF_n]; exact a9
      · simp (disch := omega) only [sF_n]; exact a5
      · simp (disch := omega) only [sF_n, sF_s]; rfl
  · rw [if_neg h0]
    refine ⟨s, ?_, hA, rfl⟩
    simp (disch := omega) only [e_X2_goesOn_0, e_X2_goesOn_7, e_X2_goesOn_8, e_X2_goesOn_25, e_X2_goesOn_26, c_X2_goesOn, cond_true, cond_false, Option.bind_some, rI_s, rL_s, rR_s, rV_s, cnd_d, cnd_ne, cnd_eq, bI_d0, bI_t0, ite_not, decide_eq_false_iff_not, decide_eq_true_eq, lg_cmp_ge, lg_cmp_le, lg_cmp_gt, lg_cmp_lt, lg_cmp_eq, okb_1, okb_0, okb_b, li_2, li_3, li_4, li_5, li_6, li_7, li_8, li_9, li_10, li_11, li_12, li_13, li_14, li_15, li_16, li_18, li_20, li_22, li_24, li_25, li_26, li_28, li_32, li_38, li_40, li_43, li_44, li_45, li_46, li_47, li_48, li_49, li_50, li_54, li_56, li_59, li_60, li_61, li_64, li_91, li_93, li_99, li_100, li_111, li_112, li_117, li_122, li_123, li_131, li_132, li_200, li_255, li_256, li_400, li_560, li_9999, li_10000, li_99999, li_65536, pk_mul, nI_add, nI_1, neg_lt0, neg_le0, nI_nn, nI_nlt0, isO_s, rs_0, ls_0, ss_0, rs_1, ls_1, ss_1, rs_2, ls_2, ss_2, rs_3, ls_3, ss_3, rs_4, ls_4, ss_4, rs_5, ws_5, rs_6, ws_6, rs_7, ws_7, rs_8, ws_8, rs_9, ws_9, X_isAway, a8, h0, if_false]
theorem X_isAtFire (k : Nat) (h : AH) (b : Nat) (s : SS) (hb : b + 6 ≤ h.1) (C : AC) (A : AA) (h6 : C.1 ≤ 6) (hp : A.2.2 0 ≤ C.1) (hA : VX C A s) : callR (k + 2) n_X2_isAtFire [.ref b] (sput h b s) = some (.inl (some (.int (bI (decide (¬ 0 < A.2.1 0 ∧ A.2.2 0 ≠ 0 ∧ 0 < A.1 1 (A.2.2 0 - 1)))))), sput h b s) := by
  obtain ⟨a1, az, ⟨a8, a9, a5⟩, a6, a7, ag⟩ := id hA
  by_cases h0 : 0 < A.2.1 0
  · simp (disch := omega) only [e_X2_isAtFire_0, e_X2_isAtFire_7, e_X2_isAtFire_14, e_X2_isAtFire_28, e_X2_isAtFire_32, e_X2_isAtFire_33, c_X2_isAtFire, cond_true, cond_false, Option.bind_some, rI_s, rL_s, rR_s, rV_s, cnd_d, cnd_ne, cnd_eq, bI_d0, bI_t0, ite_not, decide_eq_false_iff_not, decide_eq_true_eq, lg_cmp_ge, lg_cmp_le, lg_cmp_gt, lg_cmp_lt, lg_cmp_eq, okb_1, okb_0, okb_b, li_2, li_3, li_4, li_5, li_6, li_7, li_8, li_9, li_10, li_11, li_12, li_13, li_14, li_15, li_16, li_18, li_20, li_22, li_24, li_25, li_26, li_28, li_32, li_38, li_40, li_43, li_44, li_45, li_46, li_47, li_48, li_49, li_50, li_54, li_56, li_59, li_60, li_61, li_64, li_91, li_93, li_99, li_100, li_111, li_112, li_117, li_122, li_123, li_131, li_132, li_200, li_255, li_256, li_400, li_560, li_9999, li_10000, li_99999, li_65536, pk_mul, nI_add, nI_1, neg_lt0, neg_le0, nI_nn, nI_nlt0, isO_s, rs_0, ls_0, ss_0, rs_1, ls_1, ss_1, rs_2, ls_2, ss_2, rs_3, ls_3, ss_3, rs_4, ls_4, ss_4, rs_5, ws_5, rs_6, ws_6, rs_7, ws_7, rs_8, ws_8, rs_9, ws_9, X_isAway, a8, h0, if_true, not_true, false_and, decide_false]
    rfl
  · by_cases hz : A.2.2 0 = 0
    · simp (disch := omega) only [e_X2_isAtFire_0, e_X2_isAtFire_7, e_X2_isAtFire_14, e_X2_isAtFire_28, e_X2_isAtFire_32, e_X2_isAtFire_33, c_X2_isAtFire, cond_true, cond_false, Option.bind_some, rI_s, rL_s, rR_s, rV_s, cnd_d, cnd_ne, cnd_eq, bI_d0, bI_t0, ite_not, decide_eq_false_iff_not, decide_eq_true_eq, lg_cmp_ge, lg_cmp_le, lg_cmp_gt, lg_cmp_lt, lg_cmp_eq, okb_1, okb_0, okb_b, li_2, li_3, li_4, li_5, li_6, li_7, li_8, li_9, li_10, li_11, li_12, li_13, li_14, li_15, li_16, li_18, li_20, li_22, li_24, li_25, li_26, li_28, li_32, li_38, li_40, li_43, li_44, li_45, li_46, li_47, li_48, li_49, li_50, li_54, li_56, li_59, li_60, li_61, li_64, li_91, li_93, li_99, li_100, li_111, li_112, li_117, li_122, li_123, li_131, li_132, li_200, li_255, li_256, li_400, li_560, li_9999, li_10000, li_99999, li_65536, pk_mul, nI_add, nI_1, neg_lt0, neg_le0, nI_nn, nI_nlt0, isO_s, rs_0, ls_0, ss_0, rs_1, ls_1, ss_1, rs_2, ls_2, ss_2, rs_3, ls_3, ss_3, rs_4, ls_4, ss_4, rs_5, ws_5, rs_6, ws_6, rs_7, ws_7, rs_8, ws_8, rs_9, ws_9, X_isAway, a8, h0, if_false, a6, hz]
      rw [if_pos (by decide)]
      simp [bI]
    · obtain ⟨q, eq⟩ : ∃ q, A.2.2 0 = q + 1 := ⟨A.2.2 0 - 1, by omega⟩
      have hhe := (a1 q (by omega)).2.1
      simp (disch := omega) only [e_X2_isAtFire_0, e_X2_isAtFire_7, e_X2_isAtFire_14, e_X2_isAtFire_28, e_X2_isAtFire_32, e_X2_isAtFire_33, c_X2_isAtFire, cond_true, cond_false, Option.bind_some, rI_s, rL_s, rR_s, rV_s, cnd_d, cnd_ne, cnd_eq, bI_d0, bI_t0, ite_not, decide_eq_false_iff_not, decide_eq_true_eq, lg_cmp_ge, lg_cmp_le, lg_cmp_gt, lg_cmp_lt, lg_cmp_eq, okb_1, okb_0, okb_b, li_2, li_3, li_4, li_5, li_6, li_7, li_8, li_9, li_10, li_11, li_12, li_13, li_14, li_15, li_16, li_18, li_20, li_22, li_24, li_25, li_26, li_28, li_32, li_38, li_40, li_43, li_44, li_45, li_46, li_47, li_48, li_49, li_50, li_54, li_56, li_59, li_60, li_61, li_64, li_91, li_93, li_99, li_100, li_111, li_112, li_117, li_122, li_123, li_131, li_132, li_200, li_255, li_256, li_400, li_560, li_9999, li_10000, li_99999, li_65536, pk_mul, nI_add, nI_1, neg_lt0, neg_le0, nI_nn, nI_nlt0, isO_s, rs_0, ls_0, ss_0, rs_1, ls_1, ss_1, rs_2, ls_2, ss_2, rs_3, ls_3, ss_3, rs_4, ls_4, ss_4, rs_5, ws_5, rs_6, ws_6, rs_7, ws_7, rs_8, ws_8, rs_9, ws_9, X_isAway, a8, h0, if_false, a6, eq, nI_pred, hhe, nI_nle, Nat.add_sub_cancel]
      by_cases hf : 0 < A.1 1 q
      · rw [if_neg (Int32.not_le.mpr hf)]
        simp [hf, bI]
      · rw [if_pos (Int32.not_lt.mp hf)]
        simp [hf, bI]
theorem X_sends (k : Nat) (h : AH) (b v : Nat) (s : SS) (hb : b + 6 ≤ h.1) (C : AC) (A : AA) (hv : ∀ s, VL (sput h b s) v C) (hp : A.2.2 0 ≤ C.1) (h6 : C.1 ≤ 6) (hA : VX C A s) (g : Nat) (hg : g < C.1) (hr : rA C A g = true) : ∃ s', callR (k + 2) n_X2_sends [.ref b, .ref v, .int (nI g)] (sput h b s) = some (.inl none, sput h b s') ∧ VX C (sendA C A (some g)) s' ∧ s'.1 = s.1 := by
  obtain ⟨a1, az, ⟨a8, a9, a5⟩, a6, a7, ag⟩ := id hA
  unfold sendA
  by_cases e : g + 1 = A.2.2 0
  · simp only [if_pos e]
    refine ⟨s, ?_, hA, rfl⟩
    simp (disch := omega) only [e_X2_sends_0, e_X2_sends_10, e_X2_sends_11, c_X2_sends, cond_true, cond_false, Option.bind_some, rI_s, rL_s, rR_s, rV_s, cnd_d, cnd_ne, cnd_eq, bI_d0, bI_t0, ite_not, decide_eq_false_iff_not, decide_eq_true_eq, lg_cmp_ge, lg_cmp_le, lg_cmp_gt, lg_cmp_lt, lg_cmp_eq, okb_1, okb_0, okb_b, li_2, li_3, li_4, li_5, li_6, li_7, li_8, li_9, li_10, li_11, li_12, li_13, li_14, li_15, li_16, li_18, li_20, li_22, li_24, li_25, li_26, li_28, li_32, li_38, li_40, li_43, li_44, li_45, li_46, li_47, li_48, li_49, li_50, li_54, li_56, li_59, li_60, li_61, li_64, li_91, li_93, li_99, li_100, li_111, li_112, li_117, li_122, li_123, li_131, li_132, li_200, li_255, li_256, li_400, li_560, li_9999, li_10000, li_99999, li_65536, pk_mul, nI_add, nI_1, neg_lt0, neg_le0, nI_nn, nI_nlt0, isO_s, rs_0, ls_0, ss_0, rs_1, ls_1, ss_1, rs_2, ls_2, ss_2, rs_3, ls_3, ss_3, rs_4, ls_4, ss_4, rs_5, ws_5, rs_6, ws_6, rs_7, ws_7, rs_8, ws_8, rs_9, ws_9, a6, nI_eqP, if_pos e]
  · simp only [if_neg e]
    obtain ⟨z, ez, hz⟩ := X_far k (hv (sF s 7 (nI (g + 1)))) (A.2.2 0) (g + 1) (by omega) (by omega)
    have hz' : z = C.2.1 (A.2.2 0) (g + 1) := by
      rcases hz with hz | hz
      · exact hz.2.2
      · unfold rA at hr
        exact absurd hz.1 (Int32.not_lt.mpr (of_decide_eq_true hr))
    refine ⟨sF (sF s 7 (nI (g + 1))) 8 z, ?_, ⟨a1, az, ⟨?_, ?_, ?_⟩, ?_, fun hx => ?_, ag⟩, rfl⟩
    · simp (disch := omega) only [e_X2_sends_0, e_X2_sends_10, e_X2_sends_11, c_X2_sends, cond_true, cond_false, Option.bind_some, rI_s, rL_s, rR_s, rV_s, cnd_d, cnd_ne, cnd_eq, bI_d0, bI_t0, ite_not, decide_eq_false_iff_not, decide_eq_true_eq, lg_cmp_ge, lg_cmp_le, lg_cmp_gt, lg_cmp_lt, lg_cmp_eq, okb_1, okb_0, okb_b, li_2, li_3, li_4, li_5, li_6, li_7, li_8, li_9, li_10, li_11, li_12, li_13, li_14, li_15, li_16, li_18, li_20, li_22, li_24, li_25, li_26, li_28, li_32, li_38, li_40, li_43, li_44, li_45, li_46, li_47, li_48, li_49, li_50, li_54, li_56, li_59, li_60, li_61, li_64, li_91, li_93, li_99, li_100, li_111, li_112, li_117, li_122, li_123, li_131, li_132, li_200, li_255, li_256, li_400, li_560, li_9999, li_10000, li_99999, li_65536, pk_mul, nI_add, nI_1, neg_lt0, neg_le0, nI_nn, nI_nlt0, isO_s, rs_0, ls_0, ss_0, rs_1, ls_1, ss_1, rs_2, ls_2, ss_2, rs_3, ls_3, ss_3, rs_4, ls_4, ss_4, rs_5, ws_5, rs_6, ws_6, rs_7, ws_7, rs_8, ws_8, rs_9, ws_9, a6, nI_eqP, if_neg e, sF_n, sF_s, ez]
    · rw [sF_s, hz']; rfl
    · simp (disch := omega) only [sF_n]; exact a9
    · simp (disch := omega) only [sF_n]; exact a5
    · simp (disch := omega) only [sF_n]; exact a6
    · simp (disch := omega) only [sF_n, sF_s]; rfl
