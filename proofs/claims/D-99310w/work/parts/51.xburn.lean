/-! x: burn -/
def mnS (s : SS) (h : Nat) : Int32 := if s.1 1 h < s.1 0 h then s.1 1 h else s.1 0 h
def leapS (l : Int32) (s : SS) (h : Nat) : Int32 := if 0 < s.1 0 h - mnS s h ∧ l ≤ s.1 1 h then (1 : Int32) <<< (nI h &&& 31) else 0
def X1 (s : SS) (i : Nat) (s1 : SS) : Prop := (∀ h, h < i → s1.1 0 h = s.1 0 h - mnS s h ∧ s1.1 3 h = s.1 3 h + mnS s h) ∧ (∀ h, i ≤ h → s1.1 0 h = s.1 0 h ∧ s1.1 3 h = s.1 3 h) ∧ (∀ j, j ≠ 0 → j ≠ 3 → s1.1 j = s.1 j) ∧ s1.2 = s.2
def X2 (s : SS) (n : Nat → Int32) (i : Nat) (s1 : SS) : Prop := (∀ h, h < i → s1.1 1 h = n h) ∧ (∀ h, i ≤ h → s1.1 1 h = s.1 1 h) ∧ (∀ j, j ≠ 1 → s1.1 j = s.1 j) ∧ s1.2 = s.2
theorem X_burnL1 (E : AEn) (h : AH) (b v : Nat) (C : AC) (hb : b + 6 ≤ h.1) (hv : ∀ s, VL (sput h b s) v C) (s : SS) (g : Int32) : ∀ (r i : Nat) (s1 : SS), i + r = 6 → X1 s i s1 → ∃ s', evR T_X2_burn E 10 ([(0, .ref b), (1, .ref v), (2, .int g), (3, .int (orI (leapS C.2.2.2.1 s) i)), (4, .int (nI i))], [], sput h b s1) = evR T_X2_burn E 104 ([(0, .ref b), (1, .ref v), (2, .int g), (3, .int (orI (leapS C.2.2.2.1 s) 6)), (4, .int (nI 0))], [], sput h b s') ∧ X1 s 6 s'
  | 0, i, s1, hi, x1 => by
    have e : i = 6 := by omega
    subst e
    refine ⟨s1, ?_, x1⟩
    rw [e_X2_burn_10]
    simp (disch := omega) only [e_X2_burn_0, e_X2_burn_17, e_X2_burn_71, e_X2_burn_85, e_X2_burn_92, e_X2_burn_93, e_X2_burn_101, e_X2_burn_111, e_X2_burn_121, e_X2_burn_132, e_X2_burn_142, e_X2_burn_166, e_X2_burn_184, e_X2_burn_188, e_X2_burn_189, e_X2_burn_193, e_X2_burn_199, c_X2_burn, cond_true, cond_false, Option.bind_some, rI_s, rL_s, rR_s, rV_s, cnd_d, cnd_ne, cnd_eq, bI_d0, bI_t0, ite_not, decide_eq_false_iff_not, decide_eq_true_eq, lg_cmp_ge, lg_cmp_le, lg_cmp_gt, lg_cmp_lt, lg_cmp_eq, okb_1, okb_0, okb_b, li_2, li_3, li_4, li_5, li_6, li_7, li_8, li_9, li_10, li_11, li_12, li_13, li_14, li_15, li_16, li_18, li_20, li_22, li_24, li_25, li_26, li_28, li_32, li_38, li_40, li_43, li_44, li_45, li_46, li_47, li_48, li_49, li_50, li_54, li_56, li_59, li_60, li_61, li_64, li_91, li_93, li_99, li_100, li_111, li_112, li_117, li_122, li_123, li_131, li_132, li_200, li_255, li_256, li_400, li_560, li_9999, li_10000, li_99999, li_65536, pk_mul, nI_add, nI_1, neg_lt0, neg_le0, nI_nn, nI_nlt0, le_rT, if_true]
    rfl
  | r + 1, i, s1, hi, x1 => by
    obtain ⟨g1, g2, g3, g4⟩ := id x1
    have w0 : s1.1 0 i = s.1 0 i := (g2 i (by omega)).1
    have w3 : s1.1 3 i = s.1 3 i := (g2 i (by omega)).2
    have w1 : s1.1 1 i = s.1 1 i := by rw [g3 1 (by omega) (by omega)]
    have x2 : X1 s (i + 1) (sA (sA s1 0 i (s.1 0 i - mnS s i)) 3 i (s.1 3 i + mnS s i)) := by
      refine ⟨fun q hq => ?_, fun q hq => ?_, fun j h0 h3 => ?_, g4⟩
      · by_cases e : q = i
        · subst e
          exact ⟨by rw [sA_o _ _ _ _ _ (by omega), sA_s], by rw [sA_s]⟩
        · exact ⟨by rw [sA_o _ _ _ _ _ (by omega), sA_n _ _ _ _ _ e]; exact (g1 q (by omega)).1, by rw [sA_n _ _ _ _ _ e, sA_o _ _ _ _ _ (by omega)]; exact (g1 q (by omega)).2⟩
      · exact ⟨by rw [sA_o _ _ _ _ _ (by omega), sA_n _ _ _ _ _ (by omega)]; exact (g2 q (by omega)).1, by rw [sA_n _ _ _ _ _ (by omega), sA_o _ _ _ _ _ (by omega)]; exact (g2 q (by omega)).2⟩
      · rw [sA_o _ _ _ _ _ h3, sA_o _ _ _ _ _ h0]; exact g3 j h0 h3
    obtain ⟨s', e', y'⟩ := X_burnL1 E h b v C hb hv s g r (i + 1) _ (by omega) x2
    refine ⟨s', ?_, y'⟩
    rw [← e', e_X2_burn_10]
    have hl := VL_leap (hv (sA (sA s1 0 i (s.1 0 i - mnS s i)) 3 i (s.1 3 i + mnS s i)))
    simp (disch := omega) only [e_X2_burn_0, e_X2_burn_17, e_X2_burn_71, e_X2_burn_85, e_X2_burn_92, e_X2_burn_93, e_X2_burn_101, e_X2_burn_111, e_X2_burn_121, e_X2_burn_132, e_X2_burn_142, e_X2_burn_166, e_X2_burn_184, e_X2_burn_188, e_X2_burn_189, e_X2_burn_193, e_X2_burn_199, c_X2_burn, cond_true, cond_false, Option.bind_some, rI_s, rL_s, rR_s, rV_s, cnd_d, cnd_ne, cnd_eq, bI_d0, bI_t0, ite_not, decide_eq_false_iff_not, decide_eq_true_eq, lg_cmp_ge, lg_cmp_le, lg_cmp_gt, lg_cmp_lt, lg_cmp_eq, okb_1, okb_0, okb_b, li_2, li_3, li_4, li_5, li_6, li_7, li_8, li_9, li_10, li_11, li_12, li_13, li_14, li_15, li_16, li_18, li_20, li_22, li_24, li_25, li_26, li_28, li_32, li_38, li_40, li_43, li_44, li_45, li_46, li_47, li_48, li_49, li_50, li_54, li_56, li_59, li_60, li_61, li_64, li_91, li_93, li_99, li_100, li_111, li_112, li_117, li_122, li_123, li_131, li_132, li_200, li_255, li_256, li_400, li_560, li_9999, li_10000, li_99999, li_65536, pk_mul, nI_add, nI_1, neg_lt0, neg_le0, nI_nn, nI_nlt0, isO_s, rs_0, ls_0, ss_0, rs_1, ls_1, ss_1, rs_2, ls_2, ss_2, rs_3, ls_3, ss_3, rs_4, ls_4, ss_4, rs_5, ws_5, rs_6, ws_6, rs_7, ws_7, rs_8, ws_8, rs_9, ws_9, nI_leP, if_neg (show ¬ 6 ≤ i by omega), w0, w1, sA_o, show (if s.1 1 i < s.1 0 i then s.1 1 i else s.1 0 i) = mnS s i from rfl, w3, sA_s, hl]
    show _ = evR T_X2_burn E 10 ([(0, .ref b), (1, .ref v), (2, .int g), (3, .int (orI (leapS C.2.2.2.1 s) i ||| leapS C.2.2.2.1 s i)), (4, .int (nI (i + 1)))], [], sput h b (sA (sA s1 0 i (s.1 0 i - mnS s i)) 3 i (s.1 3 i + mnS s i)))
    unfold leapS
    by_cases c1 : 0 < s.1 0 i - mnS s i
    · rw [if_neg (Int32.not_le.mpr c1)]
      by_cases c2 : C.2.2.2.1 ≤ s.1 1 i
      · rw [if_neg (Int32.not_lt.mpr c2), if_pos ⟨c1, c2⟩]
      · rw [if_pos (Int32.not_le.mp c2), if_neg (fun h => c2 h.2)]
    · rw [if_pos (Int32.not_lt.mp c1), if_neg (fun h => c1 h.1)]
theorem X2_step {s s1 : SS} {n : Nat → Int32} {i : Nat} (h : X2 s n i s1) : X2 s n (i + 1) (sA s1 1 i (n i)) := by
  obtain ⟨g1, g2, g3, g4⟩ := h
  refine ⟨fun q hq => ?_, fun q hq => ?_, fun j hj => ?_, g4⟩
  · by_cases e : q = i
    · subst e; exact sA_s _ _ _ _
    · rw [sA_n _ _ _ _ _ e]; exact g1 q (by omega)
  · rw [sA_n _ _ _ _ _ (by omega)]; exact g2 q (by omega)
  · rw [sA_o _ _ _ _ _ hj]; exact g3 j hj
theorem bI_and (a : Int32) : (if a = 0 then (0 : Int32) else 1) = bI (decide (¬ a = 0)) := by
  by_cases h : a = 0 <;> simp [h, bI]
theorem i_min9a : ∀ j, j < 10 → (if nI j + 1 < 9 then nI j + 1 else 9) = if nI j < 9 then nI j + 1 else nI j := by decide
theorem i_min9 {a : Int32} (h0 : 0 ≤ a) (h9 : a ≤ 9) : (if a + 1 < 9 then a + 1 else 9) = if a < 9 then a + 1 else a := by
  obtain ⟨j, hj, rfl⟩ := nI_of2 (M := 9) (n := 9) rfl (Int32.not_lt.mpr h0) h9
  exact i_min9a j (by omega)
theorem X_burnL2 (k : Nat) (h : AH) (b v : Nat) (C : AC) (hb : b + 6 ≤ h.1) (hv : ∀ s, VL (sput h b s) v C) (s : SS) (A : AA) (g : Int32) (bes : Nat → Int32) (hk : C.1 ≤ 6) (hbe : ∀ s, ∃ be, rdR (sput h b s) v 1 2 = some be ∧ (∀ i, i < 6 → ldI (sput h b s) be 0 (nI i) = some (bes i))) (hbs : ∀ i, i < C.1 → bes i = C.2.2.1 i) (hz : ∀ i, C.1 ≤ i → i < 6 → s.1 0 i = 0 ∧ s.1 1 i = 0) (hh : ∀ i, i < C.1 → s.1 0 i = A.1 0 i - mnA A i ∧ s.1 1 i = A.1 1 i ∧ 0 ≤ A.1 1 i ∧ A.1 1 i ≤ 9) : ∀ (r i : Nat) (s1 : SS), i + r = 6 → X2 s (fun h => if h < C.1 then heatN C A h else 0) i s1 → ∃ s', evR T_X2_burn (callR (k + 1)) 104 ([(0, .ref b), (1, .ref v), (2, .int g), (3, .int (orI (leapB C A) C.1)), (4, .int (nI i))], [], sput h b s1) = some (.inl (some (.int (sumI (s.1 3) 6 - g))), sput h b s') ∧ X2 s (fun h => if h < C.1 then heatN C A h else 0) 6 s'
  | 0, i, s1, hi, x1 => by
    have e : i = 6 := by omega
    subst e
    refine ⟨s1, ?_, x1⟩
    rw [e_X2_burn_104]
    simp (disch := omega) only [e_X2_burn_0, e_X2_burn_17, e_X2_burn_71, e_X2_burn_85, e_X2_burn_92, e_X2_burn_93, e_X2_burn_101, e_X2_burn_111, e_X2_burn_121, e_X2_burn_132, e_X2_burn_142, e_X2_burn_166, e_X2_burn_184, e_X2_burn_188, e_X2_burn_189, e_X2_burn_193, e_X2_burn_199, c_X2_burn, cond_true, cond_false, Option.bind_some, rI_s, rL_s, rR_s, rV_s, cnd_d, cnd_ne, cnd_eq, bI_d0, bI_t0, ite_not, decide_eq_false_iff_not, decide_eq_true_eq, lg_cmp_ge, lg_cmp_le, lg_cmp_gt, lg_cmp_lt, lg_cmp_eq, okb_1, okb_0, okb_b, li_2, li_3, li_4, li_5, li_6, li_7, li_8, li_9, li_10, li_11, li_12, li_13, li_14, li_15, li_16, li_18, li_20, li_22, li_24, li_25, li_26, li_28, li_32, li_38, li_40, li_43, li_44, li_45, li_46, li_47, li_48, li_49, li_50, li_54, li_56, li_59, li_60, li_61, li_64, li_91, li_93, li_99, li_100, li_111, li_112, li_117, li_122, li_123, li_131, li_132, li_200, li_255, li_256, li_400, li_560, li_9999, li_10000, li_99999, li_65536, pk_mul, nI_add, nI_1, neg_lt0, neg_le0, nI_nn, nI_nlt0, le_rT, if_true, X_gone, x1.2.2.1 3 (by omega)]
  | r + 1, i, s1, hi, x1 => by
    obtain ⟨g1, g2, g3, g4⟩ := id x1
    obtain ⟨s', e', y'⟩ := X_burnL2 k h b v C hb hv s A g bes hk hbe hbs hz hh r (i + 1) _ (by omega) (X2_step x1)
    refine ⟨s', ?_, y'⟩
    obtain ⟨be, eb, el⟩ := hbe s1
    have w0 : s1.1 0 i = s.1 0 i := by rw [g3 0 (by omega)]
    have w1 : s1.1 1 i = s.1 1 i := g2 i (by omega)
    rw [← e', e_X2_burn_104]
    simp (disch := omega) only [e_X2_burn_111, cond_true, cond_false, Option.bind_some, rI_s, rL_s, rR_s, rV_s, cnd_d, cnd_ne, cnd_eq, bI_d0, bI_t0, ite_not, decide_eq_false_iff_not, decide_eq_true_eq, lg_cmp_ge, lg_cmp_le, lg_cmp_gt, lg_cmp_lt, lg_cmp_eq, okb_1, okb_0, okb_b, li_2, li_3, li_4, li_5, li_6, li_7, li_8, li_9, li_10, li_11, li_12, li_13, li_14, li_15, li_16, li_18, li_20, li_22, li_24, li_25, li_26, li_28, li_32, li_38, li_40, li_43, li_44, li_45, li_46, li_47, li_48, li_49, li_50, li_54, li_56, li_59, li_60, li_61, li_64, li_91, li_93, li_99, li_100, li_111, li_112, li_117, li_122, li_123, li_131, li_132, li_200, li_255, li_256, li_400, li_560, li_9999, li_10000, li_99999, li_65536, pk_mul, nI_add, nI_1, neg_lt0, neg_le0, nI_nn, nI_nlt0, isO_s, rs_0, ls_0, ss_0, rs_1, ls_1, ss_1, rs_2, ls_2, ss_2, rs_3, ls_3, ss_3, rs_4, ls_4, ss_4, rs_5, ws_5, rs_6, ws_6, rs_7, ws_7, rs_8, ws_8, rs_9, ws_9, nI_leP, if_neg (show ¬ 6 ≤ i by omega), w0]
    by_cases hi2 : i < C.1
    · obtain ⟨q0, q1, q2, q3⟩ := hh i hi2
      rw [if_pos hi2]
      unfold heatN
      rw [q0]
      by_cases c0 : A.1 0 i - mnA A i = 0
      · rw [if_pos c0, if_pos c0]
        simp (disch := omega) only [e_X2_burn_0, e_X2_burn_17, e_X2_burn_71, e_X2_burn_85, e_X2_burn_92, e_X2_burn_93, e_X2_burn_101, e_X2_burn_111, e_X2_burn_121, e_X2_burn_132, e_X2_burn_142, e_X2_burn_166, e_X2_burn_184, e_X2_burn_188, e_X2_burn_189, e_X2_burn_193, e_X2_burn_199, c_X2_burn, cond_true, cond_false, Option.bind_some, rI_s, rL_s, rR_s, rV_s, cnd_d, cnd_ne, cnd_eq, bI_d0, bI_t0, ite_not, decide_eq_false_iff_not, decide_eq_true_eq, lg_cmp_ge, lg_cmp_le, lg_cmp_gt, lg_cmp_lt, lg_cmp_eq, okb_1, okb_0, okb_b, li_2, li_3, li_4, li_5, li_6, li_7, li_8, li_9, li_10, li_11, li_12, li_13, li_14, li_15, li_16, li_18, li_20, li_22, li_24, li_25, li_26, li_28, li_32, li_38, li_40, li_43, li_44, li_45, li_46, li_47, li_48, li_49, li_50, li_54, li_56, li_59, li_60, li_61, li_64, li_91, li_93, li_99, li_100, li_111, li_112, li_117, li_122, li_123, li_131, li_132, li_200, li_255, li_256, li_400, li_560, li_9999, li_10000, li_99999, li_65536, pk_mul, nI_add, nI_1, neg_lt0, neg_le0, nI_nn, nI_nlt0, isO_s, rs_0, ls_0, ss_0, rs_1, ls_1, ss_1, rs_2, ls_2, ss_2, rs_3, ls_3, ss_3, rs_4, ls_4, ss_4, rs_5, ws_5, rs_6, ws_6, rs_7, ws_7, rs_8, ws_8, rs_9, ws_9]
      · rw [if_neg c0, if_neg c0]
        by_cases c1 : 0 < A.1 1 i
        · rw [if_pos c1]
          simp (disch := omega) only [e_X2_burn_0, e_X2_burn_17, e_X2_burn_71, e_X2_burn_85, e_X2_burn_92, e_X2_burn_93, e_X2_burn_101, e_X2_burn_111, e_X2_burn_121, e_X2_burn_132, e_X2_burn_142, e_X2_burn_166, e_X2_burn_184, e_X2_burn_188, e_X2_burn_189, e_X2_burn_193, e_X2_burn_199, c_X2_burn, cond_true, cond_false, Option.bind_some, rI_s, rL_s, rR_s, rV_s, cnd_d, cnd_ne, cnd_eq, bI_d0, bI_t0, ite_not, decide_eq_false_iff_not, decide_eq_true_eq, lg_cmp_ge, lg_cmp_le, lg_cmp_gt, lg_cmp_lt, lg_cmp_eq, okb_1, okb_0, okb_b, li_2, li_3, li_4, li_5, li_6, li_7, li_8, li_10, li_11, li_12, li_13, li_14, li_15, li_16, li_18, li_20, li_22, li_24, li_25, li_26, li_28, li_32, li_38, li_40, li_43, li_44, li_45, li_46, li_47, li_48, li_49, li_50, li_54, li_56, li_59, li_60, li_61, li_64, li_91, li_93, li_99, li_100, li_111, li_112, li_117, li_122, li_123, li_131, li_132, li_200, li_255, li_256, li_400, li_560, li_9999, li_10000, li_99999, li_65536, pk_mul, nI_add, nI_1, neg_lt0, neg_le0, nI_nn, nI_nlt0, isO_s, rs_0, ls_0, ss_0, rs_1, ls_1, ss_1, rs_2, ls_2, ss_2, rs_3, ls_3, ss_3, rs_4, ls_4, ss_4, rs_5, ws_5, rs_6, ws_6, rs_7, ws_7, rs_8, ws_8, rs_9, ws_9, w1, q1, if_neg (Int32.not_le.mpr c1), i_min9 q2 q3]
        · rw [if_neg c1]
          simp (disch := omega) only [e_X2_burn_0, e_X2_burn_17, e_X2_burn_71, e_X2_burn_85, e_X2_burn_92, e_X2_burn_93, e_X2_burn_101, e_X2_burn_111, e_X2_burn_121, e_X2_burn_132, e_X2_burn_142, e_X2_burn_166, e_X2_burn_184, e_X2_burn_188, e_X2_burn_199, c_X2_burn, cond_true, cond_false, Option.bind_some, rI_s, rL_s, rR_s, rV_s, cnd_d, cnd_ne, cnd_eq, bI_d0, bI_t0, ite_not, decide_eq_false_iff_not, decide_eq_true_eq, lg_cmp_ge, lg_cmp_le, lg_cmp_gt, lg_cmp_lt, lg_cmp_eq, okb_1, okb_0, okb_b, li_2, li_3, li_4, li_5, li_6, li_7, li_8, li_9, li_10, li_11, li_12, li_13, li_14, li_15, li_16, li_18, li_20, li_22, li_24, li_25, li_26, li_28, li_32, li_38, li_40, li_43, li_44, li_45, li_46, li_47, li_48, li_49, li_50, li_54, li_56, li_59, li_60, li_61, li_64, li_91, li_93, li_99, li_100, li_111, li_112, li_117, li_122, li_123, li_131, li_132, li_200, li_255, li_256, li_400, li_560, li_9999, li_10000, li_99999, li_65536, pk_mul, nI_add, nI_1, neg_lt0, neg_le0, nI_nn, nI_nlt0, isO_s, rs_0, ls_0, ss_0, rs_1, ls_1, ss_1, rs_2, ls_2, ss_2, rs_3, ls_3, ss_3, rs_4, ls_4, ss_4, rs_5, ws_5, rs_6, ws_6, rs_7, ws_7, rs_8, ws_8, rs_9, ws_9, w1, q1, if_pos (Int32.not_lt.mp c1), eb, el i (by omega), hbs i hi2]
          by_cases c2 : C.2.2.1 i &&& orI (leapB C A) C.1 = 0
          · rw [if_pos c2, if_pos c2, show (0 : Int32) = bI false from rfl]
            simp (disch := omega) only [e_X2_burn_0, e_X2_burn_17, e_X2_burn_71, e_X2_burn_85, e_X2_burn_92, e_X2_burn_93, e_X2_burn_101, e_X2_burn_111, e_X2_burn_121, e_X2_burn_132, e_X2_burn_142, e_X2_burn_166, e_X2_burn_184, e_X2_burn_188, e_X2_burn_189, e_X2_burn_193, e_X2_burn_199, c_X2_burn, cond_true, cond_false, Option.bind_some, rI_s, rL_s, rR_s, rV_s, cnd_d, cnd_ne, cnd_eq, bI_d0, bI_t0, ite_not, decide_eq_false_iff_not, decide_eq_true_eq, lg_cmp_ge, lg_cmp_le, lg_cmp_gt, lg_cmp_lt, lg_cmp_eq, okb_1, okb_0, okb_b, li_2, li_3, li_4, li_5, li_6, li_7, li_8, li_9, li_10, li_11, li_12, li_13, li_14, li_15, li_16, li_18, li_20, li_22, li_24, li_25, li_26, li_28, li_32, li_38, li_40, li_43, li_44, li_45, li_46, li_47, li_48, li_49, li_50, li_54, li_56, li_59, li_60, li_61, li_64, li_91, li_93, li_99, li_100, li_111, li_112, li_117, li_122, li_123, li_131, li_132, li_200, li_255, li_256, li_400, li_560, li_9999, li_10000, li_99999, li_65536, pk_mul, nI_add, nI_1, neg_lt0, neg_le0, nI_nn, nI_nlt0, isO_s, rs_0, ls_0, ss_0, rs_1, ls_1, ss_1, rs_2, ls_2, ss_2, rs_3, ls_3, ss_3, rs_4, ls_4, ss_4, rs_5, ws_5, rs_6, ws_6, rs_7, ws_7, rs_8, ws_8, rs_9, ws_9, X_bit]
          · rw [if_neg c2, if_neg c2, show (1 : Int32) = bI true from rfl]
            simp (disch := omega) only [e_X2_burn_0, e_X2_burn_17, e_X2_burn_71, e_X2_burn_85, e_X2_burn_92, e_X2_burn_93, e_X2_burn_101, e_X2_burn_111, e_X2_burn_121, e_X2_burn_132, e_X2_burn_142, e_X2_burn_166, e_X2_burn_184, e_X2_burn_188, e_X2_burn_189, e_X2_burn_193, e_X2_burn_199, c_X2_burn, cond_true, cond_false, Option.bind_some, rI_s, rL_s, rR_s, rV_s, cnd_d, cnd_ne, cnd_eq, bI_d0, bI_t0, ite_not, decide_eq_false_iff_not, decide_eq_true_eq, lg_cmp_ge, lg_cmp_le, lg_cmp_gt, lg_cmp_lt, lg_cmp_eq, okb_1, okb_0, okb_b, li_2, li_3, li_4, li_5, li_6, li_7, li_8, li_9, li_10, li_11, li_12, li_13, li_14, li_15, li_16, li_18, li_20, li_22, li_24, li_25, li_26, li_28, li_32, li_38, li_40, li_43, li_44, li_45, li_46, li_47, li_48, li_49, li_50, li_54, li_56, li_59, li_60, li_61, li_64, li_91, li_93, li_99, li_100, li_111, li_112, li_117, li_122, li_123, li_131, li_132, li_200, li_255, li_256, li_400, li_560, li_9999, li_10000, li_99999, li_65536, pk_mul, nI_add, nI_1, neg_lt0, neg_le0, nI_nn, nI_nlt0, isO_s, rs_0, ls_0, ss_0, rs_1, ls_1, ss_1, rs_2, ls_2, ss_2, rs_3, ls_3, ss_3, rs_4, ls_4, ss_4, rs_5, ws_5, rs_6, ws_6, rs_7, ws_7, rs_8, ws_8, rs_9, ws_9, X_bit]
    · rw [if_neg hi2, (hz i (by omega) (by omega)).1, if_pos rfl]
      simp (disch := omega) only [e_X2_burn_0, e_X2_burn_17, e_X2_burn_71, e_X2_burn_85, e_X2_burn_92, e_X2_burn_93, e_X2_burn_101, e_X2_burn_111, e_X2_burn_121, e_X2_burn_132, e_X2_burn_142, e_X2_burn_166, e_X2_burn_184, e_X2_burn_188, e_X2_burn_189, e_X2_burn_193, e_X2_burn_199, c_X2_burn, cond_true, cond_false, Option.bind_some, rI_s, rL_s, rR_s, rV_s, cnd_d, cnd_ne, cnd_eq, bI_d0, bI_t0, ite_not, decide_eq_false_iff_not, decide_eq_true_eq, lg_cmp_ge, lg_cmp_le, lg_cmp_gt, lg_cmp_lt, lg_cmp_eq, okb_1, okb_0, okb_b, li_2, li_3, li_4, li_5, li_6, li_7, li_8, li_9, li_10, li_11, li_12, li_13, li_14, li_15, li_16, li_18, li_20, li_22, li_24, li_25, li_26, li_28, li_32, li_38, li_40, li_43, li_44, li_45, li_46, li_47, li_48, li_49, li_50, li_54, li_56, li_59, li_60, li_61, li_64, li_91, li_93, li_99, li_100, li_111, li_112, li_117, li_122, li_123, li_131, li_132, li_200, li_255, li_256, li_400, li_560, li_9999, li_10000, li_99999, li_65536, pk_mul, nI_add, nI_1, neg_lt0, neg_le0, nI_nn, nI_nlt0, isO_s, rs_0, ls_0, ss_0, rs_1, ls_1, ss_1, rs_2, ls_2, ss_2, rs_3, ls_3, ss_3, rs_4, ls_4, ss_4, rs_5, ws_5, rs_6, ws_6, rs_7, ws_7, rs_8, ws_8, rs_9, ws_9]
theorem X_burn (k : Nat) (h : AH) (b v : Nat) (C : AC) (A : AA) (s : SS) (hb : b + 6 ≤ h.1) (hv : ∀ s, VL (sput h b s) v C) (hbe : ∃ bes : Nat → Int32, (∀ s, ∃ be, rdR (sput h b s) v 1 2 = some be ∧ (∀ i, i < 6 → ldI (sput h b s) be 0 (nI i) = some (bes i))) ∧ ∀ i, i < C.1 → bes i = C.2.2.1 i) (hk : C.1 ≤ 6) (hW : WA C A) (hA : VX C A s) : ∃ s', callR (k + 2) n_X2_burn [.ref b, .ref v] (sput h b s) = some (.inl (some (.int (sumI (mnA A) C.1))), sput h b s') ∧ VX C (burnA C A) s' := by
  obtain ⟨a1, az, ⟨a8, a9, a5⟩, a6, a7, ag⟩ := id hA
  obtain ⟨bes, hb1, hb2⟩ := hbe
  have hmn : ∀ i, i < C.1 → mnS s i = mnA A i := fun i hi => by unfold mnS mnA; rw [(a1 i hi).1, (a1 i hi).2.1]
  have hmz : ∀ i, C.1 ≤ i → i < 6 → mnS s i = 0 := fun i hi h6 => by unfold mnS; rw [(az i hi h6).1, (az i hi h6).2]; rfl
  have hsm : sumI (mnS s) 6 = sumI (mnA A) C.1 := sumI_6 hk hmn hmz
  have hlp : orI (leapS C.2.2.2.1 s) 6 = orI (leapB C A) C.1 := orI_6 hk (fun i hi => by unfold leapS leapB; rw [hmn i hi, (a1 i hi).1, (a1 i hi).2.1]) (fun i hi h6 => by unfold leapS; rw [hmz i hi h6, (az i hi h6).1]; exact if_neg (fun h => absurd h.1 (by decide)))
  obtain ⟨s1, e1, x1⟩ := X_burnL1 (callR (k + 1)) h b v C hb hv s (sumI (s.1 3) 6) 6 0 s (by omega) ⟨fun h hh => absurd hh (by omega), fun h _ => ⟨rfl, rfl⟩, fun j _ _ => rfl, rfl⟩
  obtain ⟨f1, f2, f3, f4⟩ := x1
  have hs3 : sumI (s1.1 3) 6 = sumI (s.1 3) 6 + sumI (mnS s) 6 := by
    rw [sumI_c (g := fun h => s.1 3 h + mnS s h) fun i hi => (f1 i hi).2]
    generalize s.1 3 = p
    generalize mnS s = q
    generalize 6 = n
    induction n with
    | zero => rfl
    | succ n ih =>
      show sumI (fun h => p h + q h) n + (p n + q n) = sumI p n + p n + (sumI q n + q n)
      rw [ih]
      grind
  obtain ⟨s2, e2, x2⟩ := X_burnL2 k h b v C hb hv s1 A (sumI (s.1 3) 6) bes hk hb1 hb2 (fun i hi h6 => ⟨by rw [(f1 i h6).1, hmz i hi h6, (az i hi h6).1]; rfl, by rw [f3 1 (by omega) (by omega)]; exact (az i hi h6).2⟩) (fun i hi => ⟨by rw [(f1 i (by omega)).1, hmn i hi, (a1 i hi).1], by rw [f3 1 (by omega) (by omega)]; exact (a1 i hi).2.1, (hW.1 i hi).1, (hW.1 i hi).2⟩) 6 0 s1 (by omega) ⟨fun h hh => absurd hh (by omega), fun h _ => rfl, fun j _ => rfl, rfl⟩
  obtain ⟨g1, g2, g3, g4⟩ := x2
  refine ⟨s2, ?_, ⟨fun i hi => ⟨?_, ?_, ?_, ?_⟩, fun i hi h6 => ⟨?_, ?_⟩, ⟨?_, ?_, ?_⟩, ?_, fun hx => ?_, ?_⟩⟩
  · rw [hlp, nI_0] at e1
    rw [nI_0, ← e1, hs3, hsm] at e2
    have he : sumI (s.1 3) 6 + sumI (mnA A) C.1 - sumI (s.1 3) 6 = sumI (mnA A) C.1 := by grind
    rw [he] at e2
    simp (disch := omega) only [c_X2_burn, e_X2_burn_0, cond_true, cond_false, Option.bind_some, rI_s, rL_s, rR_s, rV_s, cnd_d, cnd_ne, cnd_eq, bI_d0, bI_t0, ite_not, decide_eq_false_iff_not, decide_eq_true_eq, lg_cmp_ge, lg_cmp_le, lg_cmp_gt, lg_cmp_lt, lg_cmp_eq, okb_1, okb_0, okb_b, isO_s, rs_0, ls_0, ss_0, rs_1, ls_1, ss_1, rs_2, ls_2, ss_2, rs_3, ls_3, ss_3, rs_4, ls_4, ss_4, rs_5, ws_5, rs_6, ws_6, rs_7, ws_7, rs_8, ws_8, rs_9, ws_9, X_gone]
    exact e2
  · rw [g3 0 (by omega), (f1 i (by omega)).1, hmn i hi, (a1 i hi).1]; rfl
  · rw [g1 i (by omega)]; show (if i < C.1 then heatN C A i else 0) = _; rw [if_pos hi]; rfl
  · rw [g3 2 (by omega), f3 2 (by omega) (by omega)]; exact (a1 i hi).2.2.1
  · rw [g3 4 (by omega), f3 4 (by omega) (by omega)]; exact (a1 i hi).2.2.2
  · rw [g3 0 (by omega), (f1 i h6).1, hmz i hi h6, (az i hi h6).1]; rfl
  · rw [g1 i h6]; show (if i < C.1 then heatN C A i else 0) = _; rw [if_neg (by omega)]
  · rw [g4, f4, a8]; simp [burnA, va_up]
  · rw [g4, f4, a9]; simp [burnA, va_up]
  · rw [g4, f4, a5]; simp [burnA, va_up]
  · rw [g4, f4]; exact a6
  · rw [show (burnA C A).2.1 0 = A.2.1 0 by simp [burnA, va_up]] at hx
    rw [g4, f4]; exact a7 hx
  · refine ⟨?_, fun i hi => ?_⟩
    · rw [g3 3 (by omega), hs3, ag.1, hsm]
      simp [burnA, va_up]
    · rw [g3 3 (by omega), (f1 i (by omega)).2, hmn i hi, ag.2 i hi]
      rfl
